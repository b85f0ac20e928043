/-! TREE NODES, part 2: balanceInsertion, root, find -/
set_option maxRecDepth 100000
abbrev zKap : Nat → Int := fun h => (h : Int)
theorem zTree.at {T : Nat → Prop} {pa le ri : Nat → Option Nat} {a b : Nat → Int} (h : zTree T zKap pa le ri a b) {x : Nat} (hx : T x) : (a x < (x : Int) ∧ (x : Int) < b x ∧ -100000 ≤ a x ∧ b x ≤ 100000) ∧
  (∀ y, le x = some y → T y ∧ pa y = some x ∧ a y = a x ∧ b y = (x : Int)) ∧
  (le x = none → ∀ k : Nat, T k → ¬ (a x < (k : Int) ∧ (k : Int) < (x : Int))) ∧
  (∀ y, ri x = some y → T y ∧ pa y = some x ∧ a y = (x : Int) ∧ b y = b x) ∧
  (ri x = none → ∀ k : Nat, T k → ¬ ((x : Int) < (k : Int) ∧ (k : Int) < b x)) ∧
  (pa x = none → a x = -100000 ∧ b x = 100000) ∧
  (∀ p, pa x = some p → T p ∧ (le p = some x ∨ ri p = some x)) := h x hx
theorem zKap_inj {T : Nat → Prop} : ∀ x y, T x → T y → zKap x = zKap y → x = y := fun x y _ _ h => by
  have : (x : Int) = (y : Int) := h
  omega
theorem zTree.rotR {T : Nat → Prop} {κ : Nat → Int} {pa le ri : Nat → Option Nat} {a b : Nat → Int} {p r : Nat} (h : zTree T κ pa le ri a b) (hp : T p) (hr : le p = some r) : ∃ a' b', zTree T κ (zRpa pa ri p r) (zRri pa ri le p r) (zRle pa ri p r) a' b' := by
  have h2 := (h.mirror.rot hp hr).mirror
  simp only [Int.neg_neg] at h2
  exact ⟨_, _, h2⟩
theorem zTree.rotL {T : Nat → Prop} {κ : Nat → Int} {pa le ri : Nat → Option Nat} {a b : Nat → Int} {p r : Nat} (h : zTree T κ pa le ri a b) (hp : T p) (hr : ri p = some r) : ∃ a' b', zTree T κ (zRpa pa le p r) (zRle pa le p r) (zRri pa le ri p r) a' b' := ⟨_, _, h.rot hp hr⟩
/-- a parent's interval is greater -/
theorem zTree.par {T : Nat → Prop} {κ : Nat → Int} {pa le ri : Nat → Option Nat} {a b : Nat → Int} (h : zTree T κ pa le ri a b) {y w : Nat} (hy : T y) (hw : pa y = some w) : T w ∧ (le w = some y ∨ ri w = some y) ∧ w ≠ y ∧ b y - a y < b w - a w ∧ b w - a w ≤ 200000 := by
  obtain ⟨y1, y2, y3, y4, y5, y6, y7⟩ := h y hy
  obtain ⟨hTw, g⟩ := y7 w hw
  obtain ⟨w1, w2, w3, w4, w5, w6, w7⟩ := h w hTw
  have key : b y - a y < b w - a w ∧ b w - a w ≤ 200000 := by
    rcases g with g | g
    · have := (w2 y g).2.2; omega
    · have := (w4 y g).2.2; omega
  exact ⟨hTw, g, fun e => by subst e; omega, key⟩
/-- the root stays under a rotation below it -/
theorem zRpa_root {pa le : Nat → Option Nat} {p r rt q : Nat} (hrt : pa rt = none) (hp : pa p = some q) (hr : pa r = some p) (hc : ∀ c, le r = some c → pa c = some r) : zRpa pa le p r rt = none := by
  have n1 : rt ≠ p := fun e => by rw [e, hp] at hrt; cases hrt
  have n2 : rt ≠ r := fun e => by rw [e, hr] at hrt; cases hrt
  unfold zRpa
  rw [if_neg n1, if_neg n2, if_neg (fun e => by rw [hc rt e] at hrt; cases hrt)]
  exact hrt
section ZBI
variable {G : zG} {μ : zM} {R o : Nat} {ν ky vl : Nat → Nat} {nx pa le ri pv : Nat → Option Nat} {rd : Nat → Int32} {B T : Nat → Prop} {κ : Nat → Int} {a b : Nat → Int}
/-- what balanceInsertion leaves -/
def zBal (μ : zM) (R o : Nat) (ν ky vl : Nat → Nat) (nx pv : Nat → Option Nat) (B T : Nat → Prop) (κ : Nat → Int) : Option Value → zM → Prop := fun v μ' => ∃ (rt : Nat) (pa le ri : Nat → Option Nat) (a b : Nat → Int) (rd : Nat → Int32), v = some (.ref (ν rt)) ∧ T rt ∧ pa rt = none ∧ zTn μ' R o ν ky vl nx pa le ri pv rd B ∧ zTree T κ pa le ri a b ∧ zKp (zNt R o B) μ μ'
/-- 37: the root is returned -/
theorem bal_ret {μ1 : zM} {rt : Nat} {L : List (Nat × Value)} (hL : zLs L [(0, .ref (ν rt))]) (hT : zTn μ1 R o ν ky vl nx pa le ri pv rd B) (hTr : zTree T κ pa le ri a b) (hrt : T rt) (hrn : pa rt = none) (hk : zKp (zNt R o B) μ μ1) : AW G 2 MJ23_balanceInsertion (zBal μ R o ν ky vl nx pv B T κ) 0 0 37 L [] μ1 := by
  refine aw_locals hL ?_
  first | refine aw_aload_n (i := 0) (q := 38) dJ23_balanceInsertion_37 rfl rfl rfl ?_ | refine aw_aloadN_n (i := 0) (q := 38) dJ23_balanceInsertion_37 rfl rfl rfl ?_ | refine aw_aloadQ_n (i := 0) (q := 38) dJ23_balanceInsertion_37 rfl rfl rfl ?_
  exact aw_areturnR dJ23_balanceInsertion_38 rfl (by first | exact Or.inl ⟨_, rfl⟩ | exact Or.inr ⟨_, rfl⟩) (⟨rt, pa, le, ri, a, b, rd, rfl, hrt, hrn, hT, hTr, hk⟩)
/-- 123: y is z's le-child, z is w's: the rotation at w ends it -/
theorem bal_L {μ1 : zM} {rt y z w : Nat} (hT : zTn μ1 R o ν ky vl nx pa le ri pv rd B) (hTr : zTree T κ pa le ri a b) (hTB : ∀ x, T x → B x) (hrt : T rt) (hrn : pa rt = none) (hy : T y) (hyz : pa y = some z) (hzy : le z = some y) (hzw : pa z = some w) (hwz : le w = some z) (hk : zKp (zNt R o B) μ μ1) : AW G 2 MJ23_balanceInsertion (zBal μ R o ν ky vl nx pv B T κ) 0 0 123 [(0, .ref (ν rt)), (1, .ref (ν y)), (2, .ref (ν z)), (3, .ref (ν w))] [] μ1 := by
  obtain ⟨hzT, -, nzy, mzy, -⟩ := hTr.par hy hyz
  obtain ⟨hwT, -, nwz, mwz, -⟩ := hTr.par hzT hzw
  have nwy : w ≠ y := fun e => by subst e; omega
  have hBz := hTB z hzT
  have hBw := hTB w hwT
  have hBy := hTB y hy
  have hz1 := (hT z hBz).2
  first | refine aw_aload_n (i := 2) (q := 124) dJ23_balanceInsertion_123 rfl rfl rfl ?_ | refine aw_aloadN_n (i := 2) (q := 124) dJ23_balanceInsertion_123 rfl rfl rfl ?_ | refine aw_aloadQ_n (i := 2) (q := 124) dJ23_balanceInsertion_123 rfl rfl rfl ?_
  refine aw_ifnull_r (q := 127) dJ23_balanceInsertion_124 rfl ?_
  first | refine aw_aload_n (i := 2) (q := 128) dJ23_balanceInsertion_127 rfl rfl rfl ?_ | refine aw_aloadN_n (i := 2) (q := 128) dJ23_balanceInsertion_127 rfl rfl rfl ?_ | refine aw_aloadQ_n (i := 2) (q := 128) dJ23_balanceInsertion_127 rfl rfl rfl ?_
  refine aw_iconst (v := 0) (q := 129) dJ23_balanceInsertion_128 rfl rfl ?_
  refine aw_putfield (q := 132) dJ23_balanceInsertion_129 gf_J23_93_15 hz1 (by first | assumption | simp) (by first | rfl | exact znar_rf _ _ | exact zB_nar _) (by first | rfl | exact zfit_rf _ _ | exact zB_fit _) (Nat.le_of_ble_eq_true rfl) rfl (fun μ2 hg_μ2 => ?_)
  have hz1 : μ2 _ = some _ := hg_μ2 ▸ updM_eq _ _ _
  simp only [List.set] at hz1 hg_μ2
  obtain ⟨hT2, hk2⟩ := hT.p_rd hBz 0 hg_μ2
  have hw2 := (hT2 w hBw).2
  first | refine aw_aload_n (i := 3) (q := 133) dJ23_balanceInsertion_132 rfl rfl rfl ?_ | refine aw_aloadN_n (i := 3) (q := 133) dJ23_balanceInsertion_132 rfl rfl rfl ?_ | refine aw_aloadQ_n (i := 3) (q := 133) dJ23_balanceInsertion_132 rfl rfl rfl ?_
  refine aw_ifnull_r (q := 136) dJ23_balanceInsertion_133 rfl ?_
  first | refine aw_aload_n (i := 3) (q := 137) dJ23_balanceInsertion_136 rfl rfl rfl ?_ | refine aw_aloadN_n (i := 3) (q := 137) dJ23_balanceInsertion_136 rfl rfl rfl ?_ | refine aw_aloadQ_n (i := 3) (q := 137) dJ23_balanceInsertion_136 rfl rfl rfl ?_
  refine aw_iconst (v := 1) (q := 138) dJ23_balanceInsertion_137 rfl rfl ?_
  refine aw_putfield (q := 141) dJ23_balanceInsertion_138 gf_J23_93_15 hw2 (by first | assumption | simp) (by first | rfl | exact znar_rf _ _ | exact zB_nar _) (by first | rfl | exact zfit_rf _ _ | exact zB_fit _) (Nat.le_of_ble_eq_true rfl) rfl (fun μ3 hg_μ3 => ?_)
  have hw2 : μ3 _ = some _ := hg_μ3 ▸ updM_eq _ _ _
  simp only [List.set] at hw2 hg_μ3
  obtain ⟨hT3, hk3⟩ := hT2.p_rd hBw 1 hg_μ3
  first | refine aw_aload_n (i := 0) (q := 142) dJ23_balanceInsertion_141 rfl rfl rfl ?_ | refine aw_aloadN_n (i := 0) (q := 142) dJ23_balanceInsertion_141 rfl rfl rfl ?_ | refine aw_aloadQ_n (i := 0) (q := 142) dJ23_balanceInsertion_141 rfl rfl rfl ?_
  first | refine aw_aload_n (i := 3) (q := 143) dJ23_balanceInsertion_142 rfl rfl rfl ?_ | refine aw_aloadN_n (i := 3) (q := 143) dJ23_balanceInsertion_142 rfl rfl rfl ?_ | refine aw_aloadQ_n (i := 3) (q := 143) dJ23_balanceInsertion_142 rfl rfl rfl ?_
  refine aw_callS (q := 146) dJ23_balanceInsertion_143 (C_rotateRight (rt := rt) hT3 hTr hTB hwT hwz) cs_J23_133 rfl rfl (by decide) (by decide) (by first | exact Nat.le_of_ble_eq_true rfl | simp [zcat_rf, Value.category]) rfl (fun v143 μ4 hp => ?_)
  obtain ⟨rfl, hT4, hk4⟩ := hp
  obtain ⟨a', b', hTr4⟩ := hTr.rotR hwT hwz
  first | refine aw_astore_n (i := 0) (q := 147) dJ23_balanceInsertion_146 rfl (by decide) rfl ?_ | refine aw_astoreN_n (i := 0) (q := 147) dJ23_balanceInsertion_146 rfl (by decide) rfl ?_ | refine aw_astoreQ_n (i := 0) (q := 147) dJ23_balanceInsertion_146 rfl (by decide) rfl ?_
  refine aw_goto (tgt := 5) dJ23_balanceInsertion_147 (by decide) ?_
  have hy4 := (hT4 y hBy).2
  have hz4 := (hT4 z hBz).2
  have ncy : ¬ ri z = some y := fun e => by
    obtain ⟨z1, z2, z3, z4, z5, z6, z7⟩ := hTr z hzT
    have g1 := (z2 y hzy).2.2
    have g2 := (z4 y e).2.2
    obtain ⟨y1, -⟩ := hTr y hy
    omega
  have epy : zRpa pa ri w z y = some z := by
    unfold zRpa
    rw [if_neg (Ne.symm nwy), if_neg (Ne.symm nzy), if_neg ncy]
    exact hyz
  have erd : (if pa w = none then upd (upd (upd rd z 0) w 1) z 0 else upd (upd rd z 0) w 1) z = 0 := by
    split
    · exact pk_us
    · rw [pk_un (Ne.symm nwz), pk_us]
  have hret : T (if pa w = none then z else rt) ∧ zRpa pa ri w z (if pa w = none then z else rt) = none := by
    by_cases e : pa w = none
    · rw [if_pos e]
      refine ⟨hzT, ?_⟩
      unfold zRpa
      rw [if_neg (Ne.symm nwz), if_pos rfl]
      exact e
    · rw [if_neg e]
      refine ⟨hrt, ?_⟩
      obtain ⟨q, hq⟩ := Option.ne_none_iff_exists'.mp e
      exact zRpa_root hrn hq hzw (fun c hc => ((hTr z hzT).2.2.2.1 c hc).2.1)
  rw [epy] at hy4
  simp only [Option.map_some, zrf_s] at hy4
  rw [erd] at hz4
  first | refine aw_aload_n (i := 1) (q := 6) dJ23_balanceInsertion_5 rfl rfl rfl ?_ | refine aw_aloadN_n (i := 1) (q := 6) dJ23_balanceInsertion_5 rfl rfl rfl ?_ | refine aw_aloadQ_n (i := 1) (q := 6) dJ23_balanceInsertion_5 rfl rfl rfl ?_
  refine aw_getfield (q := 9) dJ23_balanceInsertion_6 gf_J23_9_15 (by assumption) rfl rfl ?_
  refine aw_dup (q := 10) dJ23_balanceInsertion_9 (by first | rfl | exact zcat_rf _) rfl ?_
  first | refine aw_astore_n (i := 2) (q := 11) dJ23_balanceInsertion_10 rfl (by decide) rfl ?_ | refine aw_astoreN_n (i := 2) (q := 11) dJ23_balanceInsertion_10 rfl (by decide) rfl ?_ | refine aw_astoreQ_n (i := 2) (q := 11) dJ23_balanceInsertion_10 rfl (by decide) rfl ?_
  refine aw_ifnonnull_r (tgt := 21) dJ23_balanceInsertion_11 (by decide) ?_
  first | refine aw_aload_n (i := 2) (q := 22) dJ23_balanceInsertion_21 rfl rfl rfl ?_ | refine aw_aloadN_n (i := 2) (q := 22) dJ23_balanceInsertion_21 rfl rfl rfl ?_ | refine aw_aloadQ_n (i := 2) (q := 22) dJ23_balanceInsertion_21 rfl rfl rfl ?_
  refine aw_getfield (q := 25) dJ23_balanceInsertion_22 gf_J23_93_15 (by assumption) rfl rfl ?_
  refine aw_if_eq (tgt := 37) (q := 28) dJ23_balanceInsertion_25 (by decide) rfl (fun _ => ?_) (fun hZ => absurd (rfl) hZ)
  exact bal_ret ⟨rfl, trivial⟩ hT4 hTr4 hret.1 hret.2 (((hk.tr hk2).tr hk3).tr hk4)
/-- 218: y is z's ri-child, z is w's: the rotation at w ends it -/
theorem bal_R {μ1 : zM} {rt y z w : Nat} (hT : zTn μ1 R o ν ky vl nx pa le ri pv rd B) (hTr : zTree T κ pa le ri a b) (hTB : ∀ x, T x → B x) (hrt : T rt) (hrn : pa rt = none) (hy : T y) (hyz : pa y = some z) (hzy : ri z = some y) (hzw : pa z = some w) (hwz : ri w = some z) (hk : zKp (zNt R o B) μ μ1) : AW G 2 MJ23_balanceInsertion (zBal μ R o ν ky vl nx pv B T κ) 0 0 218 [(0, .ref (ν rt)), (1, .ref (ν y)), (2, .ref (ν z)), (3, .ref (ν w))] [] μ1 := by
  obtain ⟨hzT, -, nzy, mzy, -⟩ := hTr.par hy hyz
  obtain ⟨hwT, -, nwz, mwz, -⟩ := hTr.par hzT hzw
  have nwy : w ≠ y := fun e => by subst e; omega
  have hBz := hTB z hzT
  have hBw := hTB w hwT
  have hBy := hTB y hy
  have hz1 := (hT z hBz).2
  first | refine aw_aload_n (i := 2) (q := 219) dJ23_balanceInsertion_218 rfl rfl rfl ?_ | refine aw_aloadN_n (i := 2) (q := 219) dJ23_balanceInsertion_218 rfl rfl rfl ?_ | refine aw_aloadQ_n (i := 2) (q := 219) dJ23_balanceInsertion_218 rfl rfl rfl ?_
  refine aw_ifnull_r (q := 222) dJ23_balanceInsertion_219 rfl ?_
  first | refine aw_aload_n (i := 2) (q := 223) dJ23_balanceInsertion_222 rfl rfl rfl ?_ | refine aw_aloadN_n (i := 2) (q := 223) dJ23_balanceInsertion_222 rfl rfl rfl ?_ | refine aw_aloadQ_n (i := 2) (q := 223) dJ23_balanceInsertion_222 rfl rfl rfl ?_
  refine aw_iconst (v := 0) (q := 224) dJ23_balanceInsertion_223 rfl rfl ?_
  refine aw_putfield (q := 227) dJ23_balanceInsertion_224 gf_J23_93_15 hz1 (by first | assumption | simp) (by first | rfl | exact znar_rf _ _ | exact zB_nar _) (by first | rfl | exact zfit_rf _ _ | exact zB_fit _) (Nat.le_of_ble_eq_true rfl) rfl (fun μ2 hg_μ2 => ?_)
  have hz1 : μ2 _ = some _ := hg_μ2 ▸ updM_eq _ _ _
  simp only [List.set] at hz1 hg_μ2
  obtain ⟨hT2, hk2⟩ := hT.p_rd hBz 0 hg_μ2
  have hw2 := (hT2 w hBw).2
  first | refine aw_aload_n (i := 3) (q := 228) dJ23_balanceInsertion_227 rfl rfl rfl ?_ | refine aw_aloadN_n (i := 3) (q := 228) dJ23_balanceInsertion_227 rfl rfl rfl ?_ | refine aw_aloadQ_n (i := 3) (q := 228) dJ23_balanceInsertion_227 rfl rfl rfl ?_
  refine aw_ifnull_r (q := 231) dJ23_balanceInsertion_228 rfl ?_
  first | refine aw_aload_n (i := 3) (q := 232) dJ23_balanceInsertion_231 rfl rfl rfl ?_ | refine aw_aloadN_n (i := 3) (q := 232) dJ23_balanceInsertion_231 rfl rfl rfl ?_ | refine aw_aloadQ_n (i := 3) (q := 232) dJ23_balanceInsertion_231 rfl rfl rfl ?_
  refine aw_iconst (v := 1) (q := 233) dJ23_balanceInsertion_232 rfl rfl ?_
  refine aw_putfield (q := 236) dJ23_balanceInsertion_233 gf_J23_93_15 hw2 (by first | assumption | simp) (by first | rfl | exact znar_rf _ _ | exact zB_nar _) (by first | rfl | exact zfit_rf _ _ | exact zB_fit _) (Nat.le_of_ble_eq_true rfl) rfl (fun μ3 hg_μ3 => ?_)
  have hw2 : μ3 _ = some _ := hg_μ3 ▸ updM_eq _ _ _
  simp only [List.set] at hw2 hg_μ3
  obtain ⟨hT3, hk3⟩ := hT2.p_rd hBw 1 hg_μ3
  first | refine aw_aload_n (i := 0) (q := 237) dJ23_balanceInsertion_236 rfl rfl rfl ?_ | refine aw_aloadN_n (i := 0) (q := 237) dJ23_balanceInsertion_236 rfl rfl rfl ?_ | refine aw_aloadQ_n (i := 0) (q := 237) dJ23_balanceInsertion_236 rfl rfl rfl ?_
  first | refine aw_aload_n (i := 3) (q := 238) dJ23_balanceInsertion_237 rfl rfl rfl ?_ | refine aw_aloadN_n (i := 3) (q := 238) dJ23_balanceInsertion_237 rfl rfl rfl ?_ | refine aw_aloadQ_n (i := 3) (q := 238) dJ23_balanceInsertion_237 rfl rfl rfl ?_
  refine aw_callS (q := 241) dJ23_balanceInsertion_238 (C_rotateLeft (rt := rt) hT3 hTr hTB hwT hwz) cs_J23_130 rfl rfl (by decide) (by decide) (by first | exact Nat.le_of_ble_eq_true rfl | simp [zcat_rf, Value.category]) rfl (fun v238 μ4 hp => ?_)
  obtain ⟨rfl, hT4, hk4⟩ := hp
  obtain ⟨a', b', hTr4⟩ := hTr.rotL hwT hwz
  first | refine aw_astore_n (i := 0) (q := 242) dJ23_balanceInsertion_241 rfl (by decide) rfl ?_ | refine aw_astoreN_n (i := 0) (q := 242) dJ23_balanceInsertion_241 rfl (by decide) rfl ?_ | refine aw_astoreQ_n (i := 0) (q := 242) dJ23_balanceInsertion_241 rfl (by decide) rfl ?_
  refine aw_goto (tgt := 5) dJ23_balanceInsertion_242 (by decide) ?_
  have hy4 := (hT4 y hBy).2
  have hz4 := (hT4 z hBz).2
  have ncy : ¬ le z = some y := fun e => by
    obtain ⟨z1, z2, z3, z4, z5, z6, z7⟩ := hTr z hzT
    have g1 := (z2 y e).2.2
    have g2 := (z4 y hzy).2.2
    obtain ⟨y1, -⟩ := hTr y hy
    omega
  have epy : zRpa pa le w z y = some z := by
    unfold zRpa
    rw [if_neg (Ne.symm nwy), if_neg (Ne.symm nzy), if_neg ncy]
    exact hyz
  have erd : (if pa w = none then upd (upd (upd rd z 0) w 1) z 0 else upd (upd rd z 0) w 1) z = 0 := by
    split
    · exact pk_us
    · rw [pk_un (Ne.symm nwz), pk_us]
  have hret : T (if pa w = none then z else rt) ∧ zRpa pa le w z (if pa w = none then z else rt) = none := by
    by_cases e : pa w = none
    · rw [if_pos e]
      refine ⟨hzT, ?_⟩
      unfold zRpa
      rw [if_neg (Ne.symm nwz), if_pos rfl]
      exact e
    · rw [if_neg e]
      refine ⟨hrt, ?_⟩
      obtain ⟨q, hq⟩ := Option.ne_none_iff_exists'.mp e
      exact zRpa_root hrn hq hzw (fun c hc => ((hTr z hzT).2.1 c hc).2.1)
  rw [epy] at hy4
  simp only [Option.map_some, zrf_s] at hy4
  rw [erd] at hz4
  first | refine aw_aload_n (i := 1) (q := 6) dJ23_balanceInsertion_5 rfl rfl rfl ?_ | refine aw_aloadN_n (i := 1) (q := 6) dJ23_balanceInsertion_5 rfl rfl rfl ?_ | refine aw_aloadQ_n (i := 1) (q := 6) dJ23_balanceInsertion_5 rfl rfl rfl ?_
  refine aw_getfield (q := 9) dJ23_balanceInsertion_6 gf_J23_9_15 (by assumption) rfl rfl ?_
  refine aw_dup (q := 10) dJ23_balanceInsertion_9 (by first | rfl | exact zcat_rf _) rfl ?_
  first | refine aw_astore_n (i := 2) (q := 11) dJ23_balanceInsertion_10 rfl (by decide) rfl ?_ | refine aw_astoreN_n (i := 2) (q := 11) dJ23_balanceInsertion_10 rfl (by decide) rfl ?_ | refine aw_astoreQ_n (i := 2) (q := 11) dJ23_balanceInsertion_10 rfl (by decide) rfl ?_
  refine aw_ifnonnull_r (tgt := 21) dJ23_balanceInsertion_11 (by decide) ?_
  first | refine aw_aload_n (i := 2) (q := 22) dJ23_balanceInsertion_21 rfl rfl rfl ?_ | refine aw_aloadN_n (i := 2) (q := 22) dJ23_balanceInsertion_21 rfl rfl rfl ?_ | refine aw_aloadQ_n (i := 2) (q := 22) dJ23_balanceInsertion_21 rfl rfl rfl ?_
  refine aw_getfield (q := 25) dJ23_balanceInsertion_22 gf_J23_93_15 (by assumption) rfl rfl ?_
  refine aw_if_eq (tgt := 37) (q := 28) dJ23_balanceInsertion_25 (by decide) rfl (fun _ => ?_) (fun hZ => absurd (rfl) hZ)
  exact bal_ret ⟨rfl, trivial⟩ hT4 hTr4 hret.1 hret.2 (((hk.tr hk2).tr hk3).tr hk4)
set_option maxHeartbeats 8000000 in
/-- the loop -/
theorem bal_loop (hTB : ∀ x, T x → B x) (inj : ∀ x y, T x → T y → κ x = κ y → x = y) : ∀ n (μ1 : zM) (pa le ri : Nat → Option Nat) (rd : Nat → Int32) (a b : Nat → Int) (rt x : Nat), zTn μ1 R o ν ky vl nx pa le ri pv rd B → zTree T κ pa le ri a b → T rt → pa rt = none → T x → (200000 - (b x - a x)).toNat ≤ n → zKp (zNt R o B) μ μ1 → AW G 2 MJ23_balanceInsertion (zBal μ R o ν ky vl nx pv B T κ) 0 0 5 [(0, .ref (ν rt)), (1, .ref (ν x))] [] μ1 := by
  intro n
  induction n with
  | zero =>
    intro μ1 pa le ri rd a b rt x hT hTr hrt hrn hx hm hk
    have hBx := hTB x hx
    obtain ⟨q, hq⟩ : ∃ q, pa x = q := ⟨_, rfl⟩
    cases q with
    | some w =>
      obtain ⟨-, -, -, m1, m2⟩ := hTr.par hx hq
      omega
    | none =>
      have hx1 := (hT x hBx).2
      rw [hq] at hx1
      simp only [Option.map_none, zrf_n] at hx1
      first | refine aw_aload_n (i := 1) (q := 6) dJ23_balanceInsertion_5 rfl rfl rfl ?_ | refine aw_aloadN_n (i := 1) (q := 6) dJ23_balanceInsertion_5 rfl rfl rfl ?_ | refine aw_aloadQ_n (i := 1) (q := 6) dJ23_balanceInsertion_5 rfl rfl rfl ?_
      refine aw_getfield (q := 9) dJ23_balanceInsertion_6 gf_J23_9_15 (by assumption) rfl rfl ?_
      refine aw_dup (q := 10) dJ23_balanceInsertion_9 (by first | rfl | exact zcat_rf _) rfl ?_
      first | refine aw_astore_n (i := 2) (q := 11) dJ23_balanceInsertion_10 rfl (by decide) rfl ?_ | refine aw_astoreN_n (i := 2) (q := 11) dJ23_balanceInsertion_10 rfl (by decide) rfl ?_ | refine aw_astoreQ_n (i := 2) (q := 11) dJ23_balanceInsertion_10 rfl (by decide) rfl ?_
      refine aw_ifnonnull_n (q := 14) dJ23_balanceInsertion_11 rfl ?_
      first | refine aw_aload_n (i := 1) (q := 15) dJ23_balanceInsertion_14 rfl rfl rfl ?_ | refine aw_aloadN_n (i := 1) (q := 15) dJ23_balanceInsertion_14 rfl rfl rfl ?_ | refine aw_aloadQ_n (i := 1) (q := 15) dJ23_balanceInsertion_14 rfl rfl rfl ?_
      refine aw_iconst (v := 0) (q := 16) dJ23_balanceInsertion_15 rfl rfl ?_
      refine aw_putfield (q := 19) dJ23_balanceInsertion_16 gf_J23_93_15 hx1 (by first | assumption | simp) (by first | rfl | exact znar_rf _ _ | exact zB_nar _) (by first | rfl | exact zfit_rf _ _ | exact zB_fit _) (Nat.le_of_ble_eq_true rfl) rfl (fun μ2 hg_μ2 => ?_)
      have hx1 : μ2 _ = some _ := hg_μ2 ▸ updM_eq _ _ _
      simp only [List.set] at hx1 hg_μ2
      obtain ⟨hT2, hk2⟩ := hT.p_rd (μ' := μ2) hBx 0 (by rw [hq]; exact hg_μ2)
      first | refine aw_aload_n (i := 1) (q := 20) dJ23_balanceInsertion_19 rfl rfl rfl ?_ | refine aw_aloadN_n (i := 1) (q := 20) dJ23_balanceInsertion_19 rfl rfl rfl ?_ | refine aw_aloadQ_n (i := 1) (q := 20) dJ23_balanceInsertion_19 rfl rfl rfl ?_
      exact aw_areturnR dJ23_balanceInsertion_20 rfl (by first | exact Or.inl ⟨_, rfl⟩ | exact Or.inr ⟨_, rfl⟩) (⟨x, pa, le, ri, a, b, _, rfl, hx, hq, hT2, hTr, hk.tr hk2⟩)
  | succ n ih =>
    intro μ1 pa le ri rd a b rt x hT hTr hrt hrn hx hm hk
    have hBx := hTB x hx
    obtain ⟨q, hq⟩ : ∃ q, pa x = q := ⟨_, rfl⟩
    have hx1 := (hT x hBx).2
    rw [hq] at hx1
    cases q with
    | none =>
      simp only [Option.map_none, zrf_n] at hx1
      first | refine aw_aload_n (i := 1) (q := 6) dJ23_balanceInsertion_5 rfl rfl rfl ?_ | refine aw_aloadN_n (i := 1) (q := 6) dJ23_balanceInsertion_5 rfl rfl rfl ?_ | refine aw_aloadQ_n (i := 1) (q := 6) dJ23_balanceInsertion_5 rfl rfl rfl ?_
      refine aw_getfield (q := 9) dJ23_balanceInsertion_6 gf_J23_9_15 (by assumption) rfl rfl ?_
      refine aw_dup (q := 10) dJ23_balanceInsertion_9 (by first | rfl | exact zcat_rf _) rfl ?_
      first | refine aw_astore_n (i := 2) (q := 11) dJ23_balanceInsertion_10 rfl (by decide) rfl ?_ | refine aw_astoreN_n (i := 2) (q := 11) dJ23_balanceInsertion_10 rfl (by decide) rfl ?_ | refine aw_astoreQ_n (i := 2) (q := 11) dJ23_balanceInsertion_10 rfl (by decide) rfl ?_
      refine aw_ifnonnull_n (q := 14) dJ23_balanceInsertion_11 rfl ?_
      first | refine aw_aload_n (i := 1) (q := 15) dJ23_balanceInsertion_14 rfl rfl rfl ?_ | refine aw_aloadN_n (i := 1) (q := 15) dJ23_balanceInsertion_14 rfl rfl rfl ?_ | refine aw_aloadQ_n (i := 1) (q := 15) dJ23_balanceInsertion_14 rfl rfl rfl ?_
      refine aw_iconst (v := 0) (q := 16) dJ23_balanceInsertion_15 rfl rfl ?_
      refine aw_putfield (q := 19) dJ23_balanceInsertion_16 gf_J23_93_15 hx1 (by first | assumption | simp) (by first | rfl | exact znar_rf _ _ | exact zB_nar _) (by first | rfl | exact zfit_rf _ _ | exact zB_fit _) (Nat.le_of_ble_eq_true rfl) rfl (fun μ2 hg_μ2 => ?_)
      have hx1 : μ2 _ = some _ := hg_μ2 ▸ updM_eq _ _ _
      simp only [List.set] at hx1 hg_μ2
      obtain ⟨hT2, hk2⟩ := hT.p_rd (μ' := μ2) hBx 0 (by rw [hq]; exact hg_μ2)
      first | refine aw_aload_n (i := 1) (q := 20) dJ23_balanceInsertion_19 rfl rfl rfl ?_ | refine aw_aloadN_n (i := 1) (q := 20) dJ23_balanceInsertion_19 rfl rfl rfl ?_ | refine aw_aloadQ_n (i := 1) (q := 20) dJ23_balanceInsertion_19 rfl rfl rfl ?_
      exact aw_areturnR dJ23_balanceInsertion_20 rfl (by first | exact Or.inl ⟨_, rfl⟩ | exact Or.inr ⟨_, rfl⟩) (⟨x, pa, le, ri, a, b, _, rfl, hx, hq, hT2, hTr, hk.tr hk2⟩)
    | some z =>
      obtain ⟨hzT, gzx, nzx, m1, m2⟩ := hTr.par hx hq
      have hBz := hTB z hzT
      simp only [Option.map_some, zrf_s] at hx1
      obtain ⟨q2, hq2⟩ : ∃ q, pa z = q := ⟨_, rfl⟩
      have hz1 := (hT z hBz).2
      rw [hq2] at hz1
      first | refine aw_aload_n (i := 1) (q := 6) dJ23_balanceInsertion_5 rfl rfl rfl ?_ | refine aw_aloadN_n (i := 1) (q := 6) dJ23_balanceInsertion_5 rfl rfl rfl ?_ | refine aw_aloadQ_n (i := 1) (q := 6) dJ23_balanceInsertion_5 rfl rfl rfl ?_
      refine aw_getfield (q := 9) dJ23_balanceInsertion_6 gf_J23_9_15 (by assumption) rfl rfl ?_
      refine aw_dup (q := 10) dJ23_balanceInsertion_9 (by first | rfl | exact zcat_rf _) rfl ?_
      first | refine aw_astore_n (i := 2) (q := 11) dJ23_balanceInsertion_10 rfl (by decide) rfl ?_ | refine aw_astoreN_n (i := 2) (q := 11) dJ23_balanceInsertion_10 rfl (by decide) rfl ?_ | refine aw_astoreQ_n (i := 2) (q := 11) dJ23_balanceInsertion_10 rfl (by decide) rfl ?_
      refine aw_ifnonnull_r (tgt := 21) dJ23_balanceInsertion_11 (by decide) ?_
      first | refine aw_aload_n (i := 2) (q := 22) dJ23_balanceInsertion_21 rfl rfl rfl ?_ | refine aw_aloadN_n (i := 2) (q := 22) dJ23_balanceInsertion_21 rfl rfl rfl ?_ | refine aw_aloadQ_n (i := 2) (q := 22) dJ23_balanceInsertion_21 rfl rfl rfl ?_
      refine aw_getfield (q := 25) dJ23_balanceInsertion_22 gf_J23_93_15 (by assumption) rfl rfl ?_
      refine aw_if_eq (tgt := 37) (q := 28) dJ23_balanceInsertion_25 (by decide) rfl (fun hred => ?_) (fun hred => ?_)
      · skip
        exact bal_ret ⟨rfl, trivial⟩ hT hTr hrt hrn hk
      · skip
        cases q2 with
        | none =>
          simp only [Option.map_none, zrf_n] at hz1
          first | refine aw_aload_n (i := 2) (q := 29) dJ23_balanceInsertion_28 rfl rfl rfl ?_ | refine aw_aloadN_n (i := 2) (q := 29) dJ23_balanceInsertion_28 rfl rfl rfl ?_ | refine aw_aloadQ_n (i := 2) (q := 29) dJ23_balanceInsertion_28 rfl rfl rfl ?_
          refine aw_getfield (q := 32) dJ23_balanceInsertion_29 gf_J23_9_15 (by assumption) rfl rfl ?_
          refine aw_dup (q := 33) dJ23_balanceInsertion_32 (by first | rfl | exact zcat_rf _) rfl ?_
          first | refine aw_astore_n (i := 3) (q := 34) dJ23_balanceInsertion_33 rfl (by decide) rfl ?_ | refine aw_astoreN_n (i := 3) (q := 34) dJ23_balanceInsertion_33 rfl (by decide) rfl ?_ | refine aw_astoreQ_n (i := 3) (q := 34) dJ23_balanceInsertion_33 rfl (by decide) rfl ?_
          refine aw_ifnonnull_n (q := 37) dJ23_balanceInsertion_34 rfl ?_
          exact bal_ret ⟨rfl, trivial⟩ hT hTr hrt hrn hk
        | some w =>
          obtain ⟨hwT, gwz, nwz, m3, m4⟩ := hTr.par hzT hq2
          have hBw := hTB w hwT
          have nwx : w ≠ x := fun e => by subst e; omega
          simp only [Option.map_some, zrf_s] at hz1
          have hw1 := (hT w hBw).2
          have hlb : ∀ c, le w = some c → B c := fun c hc => hTB c ((hTr w hwT).2.1 c hc).1
          have hrb : ∀ c, ri w = some c → B c := fun c hc => hTB c ((hTr w hwT).2.2.2.1 c hc).1
          have hzlb : ∀ c, le z = some c → B c := fun c hc => hTB c ((hTr z hzT).2.1 c hc).1
          have hzrb : ∀ c, ri z = some c → B c := fun c hc => hTB c ((hTr z hzT).2.2.2.1 c hc).1
          have recol : ∀ u, B u → AW G 2 MJ23_balanceInsertion (zBal μ R o ν ky vl nx pv B T κ) 0 0 68 [(0, .ref (ν rt)), (2, .ref (ν z)), (3, .ref (ν w)), (5, .ref (ν u))] [] μ1 := by
            intro u hu
            have hu1 := (hT u hu).2
            first | refine aw_aload (q := 70) dJ23_balanceInsertion_68 rfl rfl ?_ | refine aw_aloadN (q := 70) dJ23_balanceInsertion_68 rfl rfl ?_ | refine aw_aloadQ (q := 70) dJ23_balanceInsertion_68 rfl rfl ?_
            refine aw_iconst (v := 0) (q := 71) dJ23_balanceInsertion_70 rfl rfl ?_
            refine aw_putfield (q := 74) dJ23_balanceInsertion_71 gf_J23_93_15 hu1 (by first | assumption | simp) (by first | rfl | exact znar_rf _ _ | exact zB_nar _) (by first | rfl | exact zfit_rf _ _ | exact zB_fit _) (Nat.le_of_ble_eq_true rfl) rfl (fun μ2 hg_μ2 => ?_)
            have hu1 : μ2 _ = some _ := hg_μ2 ▸ updM_eq _ _ _
            simp only [List.set] at hu1 hg_μ2
            obtain ⟨hT2, hk2⟩ := hT.p_rd hu 0 hg_μ2
            have hz2 := (hT2 z hBz).2
            first | refine aw_aload_n (i := 2) (q := 75) dJ23_balanceInsertion_74 rfl rfl rfl ?_ | refine aw_aloadN_n (i := 2) (q := 75) dJ23_balanceInsertion_74 rfl rfl rfl ?_ | refine aw_aloadQ_n (i := 2) (q := 75) dJ23_balanceInsertion_74 rfl rfl rfl ?_
            refine aw_iconst (v := 0) (q := 76) dJ23_balanceInsertion_75 rfl rfl ?_
            refine aw_putfield (q := 79) dJ23_balanceInsertion_76 gf_J23_93_15 hz2 (by first | assumption | simp) (by first | rfl | exact znar_rf _ _ | exact zB_nar _) (by first | rfl | exact zfit_rf _ _ | exact zB_fit _) (Nat.le_of_ble_eq_true rfl) rfl (fun μ3 hg_μ3 => ?_)
            have hz2 : μ3 _ = some _ := hg_μ3 ▸ updM_eq _ _ _
            simp only [List.set] at hz2 hg_μ3
            obtain ⟨hT3, hk3⟩ := hT2.p_rd hBz 0 hg_μ3
            have hw3 := (hT3 w hBw).2
            first | refine aw_aload_n (i := 3) (q := 80) dJ23_balanceInsertion_79 rfl rfl rfl ?_ | refine aw_aloadN_n (i := 3) (q := 80) dJ23_balanceInsertion_79 rfl rfl rfl ?_ | refine aw_aloadQ_n (i := 3) (q := 80) dJ23_balanceInsertion_79 rfl rfl rfl ?_
            refine aw_iconst (v := 1) (q := 81) dJ23_balanceInsertion_80 rfl rfl ?_
            refine aw_putfield (q := 84) dJ23_balanceInsertion_81 gf_J23_93_15 hw3 (by first | assumption | simp) (by first | rfl | exact znar_rf _ _ | exact zB_nar _) (by first | rfl | exact zfit_rf _ _ | exact zB_fit _) (Nat.le_of_ble_eq_true rfl) rfl (fun μ4 hg_μ4 => ?_)
            have hw3 : μ4 _ = some _ := hg_μ4 ▸ updM_eq _ _ _
            simp only [List.set] at hw3 hg_μ4
            obtain ⟨hT4, hk4⟩ := hT3.p_rd hBw 1 hg_μ4
            first | refine aw_aload_n (i := 3) (q := 85) dJ23_balanceInsertion_84 rfl rfl rfl ?_ | refine aw_aloadN_n (i := 3) (q := 85) dJ23_balanceInsertion_84 rfl rfl rfl ?_ | refine aw_aloadQ_n (i := 3) (q := 85) dJ23_balanceInsertion_84 rfl rfl rfl ?_
            first | refine aw_astore_n (i := 1) (q := 86) dJ23_balanceInsertion_85 rfl (by decide) rfl ?_ | refine aw_astoreN_n (i := 1) (q := 86) dJ23_balanceInsertion_85 rfl (by decide) rfl ?_ | refine aw_astoreQ_n (i := 1) (q := 86) dJ23_balanceInsertion_85 rfl (by decide) rfl ?_
            refine aw_goto (tgt := 5) dJ23_balanceInsertion_86 (by decide) ?_
            exact AW.bud (aw_locals (by exact ⟨rfl, rfl, trivial⟩) (ih μ4 pa le ri _ a b rt w hT4 hTr hrt hrn hwT (by omega) (((hk.tr hk2).tr hk3).tr hk4))) (by omega) (by omega)
          have recol2 : ∀ u, B u → AW G 2 MJ23_balanceInsertion (zBal μ R o ν ky vl nx pv B T κ) 0 0 163 [(0, .ref (ν rt)), (2, .ref (ν z)), (3, .ref (ν w)), (4, .ref (ν u))] [] μ1 := by
            intro u hu
            have hu1 := (hT u hu).2
            first | refine aw_aload (q := 165) dJ23_balanceInsertion_163 rfl rfl ?_ | refine aw_aloadN (q := 165) dJ23_balanceInsertion_163 rfl rfl ?_ | refine aw_aloadQ (q := 165) dJ23_balanceInsertion_163 rfl rfl ?_
            refine aw_iconst (v := 0) (q := 166) dJ23_balanceInsertion_165 rfl rfl ?_
            refine aw_putfield (q := 169) dJ23_balanceInsertion_166 gf_J23_93_15 hu1 (by first | assumption | simp) (by first | rfl | exact znar_rf _ _ | exact zB_nar _) (by first | rfl | exact zfit_rf _ _ | exact zB_fit _) (Nat.le_of_ble_eq_true rfl) rfl (fun μ2 hg_μ2 => ?_)
            have hu1 : μ2 _ = some _ := hg_μ2 ▸ updM_eq _ _ _
            simp only [List.set] at hu1 hg_μ2
            obtain ⟨hT2, hk2⟩ := hT.p_rd hu 0 hg_μ2
            have hz2 := (hT2 z hBz).2
            first | refine aw_aload_n (i := 2) (q := 170) dJ23_balanceInsertion_169 rfl rfl rfl ?_ | refine aw_aloadN_n (i := 2) (q := 170) dJ23_balanceInsertion_169 rfl rfl rfl ?_ | refine aw_aloadQ_n (i := 2) (q := 170) dJ23_balanceInsertion_169 rfl rfl rfl ?_
            refine aw_iconst (v := 0) (q := 171) dJ23_balanceInsertion_170 rfl rfl ?_
            refine aw_putfield (q := 174) dJ23_balanceInsertion_171 gf_J23_93_15 hz2 (by first | assumption | simp) (by first | rfl | exact znar_rf _ _ | exact zB_nar _) (by first | rfl | exact zfit_rf _ _ | exact zB_fit _) (Nat.le_of_ble_eq_true rfl) rfl (fun μ3 hg_μ3 => ?_)
            have hz2 : μ3 _ = some _ := hg_μ3 ▸ updM_eq _ _ _
            simp only [List.set] at hz2 hg_μ3
            obtain ⟨hT3, hk3⟩ := hT2.p_rd hBz 0 hg_μ3
            have hw3 := (hT3 w hBw).2
            first | refine aw_aload_n (i := 3) (q := 175) dJ23_balanceInsertion_174 rfl rfl rfl ?_ | refine aw_aloadN_n (i := 3) (q := 175) dJ23_balanceInsertion_174 rfl rfl rfl ?_ | refine aw_aloadQ_n (i := 3) (q := 175) dJ23_balanceInsertion_174 rfl rfl rfl ?_
            refine aw_iconst (v := 1) (q := 176) dJ23_balanceInsertion_175 rfl rfl ?_
            refine aw_putfield (q := 179) dJ23_balanceInsertion_176 gf_J23_93_15 hw3 (by first | assumption | simp) (by first | rfl | exact znar_rf _ _ | exact zB_nar _) (by first | rfl | exact zfit_rf _ _ | exact zB_fit _) (Nat.le_of_ble_eq_true rfl) rfl (fun μ4 hg_μ4 => ?_)
            have hw3 : μ4 _ = some _ := hg_μ4 ▸ updM_eq _ _ _
            simp only [List.set] at hw3 hg_μ4
            obtain ⟨hT4, hk4⟩ := hT3.p_rd hBw 1 hg_μ4
            first | refine aw_aload_n (i := 3) (q := 180) dJ23_balanceInsertion_179 rfl rfl rfl ?_ | refine aw_aloadN_n (i := 3) (q := 180) dJ23_balanceInsertion_179 rfl rfl rfl ?_ | refine aw_aloadQ_n (i := 3) (q := 180) dJ23_balanceInsertion_179 rfl rfl rfl ?_
            first | refine aw_astore_n (i := 1) (q := 181) dJ23_balanceInsertion_180 rfl (by decide) rfl ?_ | refine aw_astoreN_n (i := 1) (q := 181) dJ23_balanceInsertion_180 rfl (by decide) rfl ?_ | refine aw_astoreQ_n (i := 1) (q := 181) dJ23_balanceInsertion_180 rfl (by decide) rfl ?_
            refine aw_goto (tgt := 5) dJ23_balanceInsertion_181 (by decide) ?_
            exact AW.bud (aw_locals (by exact ⟨rfl, rfl, trivial⟩) (ih μ4 pa le ri _ a b rt w hT4 hTr hrt hrn hwT (by omega) (((hk.tr hk2).tr hk3).tr hk4))) (by omega) (by omega)
          have innerL : le w = some z → AW G 2 MJ23_balanceInsertion (zBal μ R o ν ky vl nx pv B T κ) 0 0 89 [(0, .ref (ν rt)), (1, .ref (ν x)), (2, .ref (ν z)), (3, .ref (ν w))] [] μ1 := by
            intro hwz
            have hz1 := (hT z hBz).2
            by_cases hin : ri z = some x
            · skip
              first | refine aw_aload_n (i := 1) (q := 90) dJ23_balanceInsertion_89 rfl rfl rfl ?_ | refine aw_aloadN_n (i := 1) (q := 90) dJ23_balanceInsertion_89 rfl rfl rfl ?_ | refine aw_aloadQ_n (i := 1) (q := 90) dJ23_balanceInsertion_89 rfl rfl rfl ?_
              first | refine aw_aload_n (i := 2) (q := 91) dJ23_balanceInsertion_90 rfl rfl rfl ?_ | refine aw_aloadN_n (i := 2) (q := 91) dJ23_balanceInsertion_90 rfl rfl rfl ?_ | refine aw_aloadQ_n (i := 2) (q := 91) dJ23_balanceInsertion_90 rfl rfl rfl ?_
              refine aw_getfield (q := 94) dJ23_balanceInsertion_91 gf_J23_42_15 (by assumption) rfl rfl ?_
              first | refine aw_acmpRQ_ne (tgt := 123) (q := 97) dJ23_balanceInsertion_94 (by decide) rfl (fun hZ => absurd (by (rw [hin]; rfl)) hZ) (fun _ => ?_)
              first | refine aw_aload_n (i := 0) (q := 98) dJ23_balanceInsertion_97 rfl rfl rfl ?_ | refine aw_aloadN_n (i := 0) (q := 98) dJ23_balanceInsertion_97 rfl rfl rfl ?_ | refine aw_aloadQ_n (i := 0) (q := 98) dJ23_balanceInsertion_97 rfl rfl rfl ?_
              first | refine aw_aload_n (i := 2) (q := 99) dJ23_balanceInsertion_98 rfl rfl rfl ?_ | refine aw_aloadN_n (i := 2) (q := 99) dJ23_balanceInsertion_98 rfl rfl rfl ?_ | refine aw_aloadQ_n (i := 2) (q := 99) dJ23_balanceInsertion_98 rfl rfl rfl ?_
              refine aw_dup (q := 100) dJ23_balanceInsertion_99 (by first | rfl | exact zcat_rf _) rfl ?_
              first | refine aw_astore_n (i := 1) (q := 101) dJ23_balanceInsertion_100 rfl (by decide) rfl ?_ | refine aw_astoreN_n (i := 1) (q := 101) dJ23_balanceInsertion_100 rfl (by decide) rfl ?_ | refine aw_astoreQ_n (i := 1) (q := 101) dJ23_balanceInsertion_100 rfl (by decide) rfl ?_
              refine aw_callS (q := 104) dJ23_balanceInsertion_101 (C_rotateLeft (rt := rt) hT hTr hTB hzT hin) cs_J23_130 rfl rfl (by decide) (by decide) (by first | exact Nat.le_of_ble_eq_true rfl | simp [zcat_rf, Value.category]) rfl (fun v101 μ2 hp => ?_)
              obtain ⟨rfl, hT2, hk2⟩ := hp
              obtain ⟨a', b', hTr2⟩ := hTr.rotL hzT hin
              have ert : (if pa z = none then x else rt) = rt := if_neg (by rw [hq2]; simp)
              rw [ert]
              have hz2 := (hT2 z hBz).2
              have hx2 := (hT2 x hBx).2
              have e1 : zRpa pa le z x z = some x := if_pos rfl
              have e2 : zRpa pa le z x x = some w := by
                unfold zRpa
                rw [if_neg (Ne.symm nzx), if_pos rfl]
                exact hq2
              have e3 : zRle pa le z x x = some z := if_pos rfl
              have e4 : zRle pa le z x w = some x := by
                unfold zRle
                rw [if_neg nwx, if_pos ⟨hq2, hwz⟩]
              rw [e1] at hz2
              rw [e2] at hx2
              simp only [Option.map_some, zrf_s] at hz2 hx2
              first | refine aw_astore_n (i := 0) (q := 105) dJ23_balanceInsertion_104 rfl (by decide) rfl ?_ | refine aw_astoreN_n (i := 0) (q := 105) dJ23_balanceInsertion_104 rfl (by decide) rfl ?_ | refine aw_astoreQ_n (i := 0) (q := 105) dJ23_balanceInsertion_104 rfl (by decide) rfl ?_
              first | refine aw_aload_n (i := 1) (q := 106) dJ23_balanceInsertion_105 rfl rfl rfl ?_ | refine aw_aloadN_n (i := 1) (q := 106) dJ23_balanceInsertion_105 rfl rfl rfl ?_ | refine aw_aloadQ_n (i := 1) (q := 106) dJ23_balanceInsertion_105 rfl rfl rfl ?_
              refine aw_getfield (q := 109) dJ23_balanceInsertion_106 gf_J23_9_15 (by assumption) rfl rfl ?_
              refine aw_dup (q := 110) dJ23_balanceInsertion_109 (by first | rfl | exact zcat_rf _) rfl ?_
              first | refine aw_astore_n (i := 2) (q := 111) dJ23_balanceInsertion_110 rfl (by decide) rfl ?_ | refine aw_astoreN_n (i := 2) (q := 111) dJ23_balanceInsertion_110 rfl (by decide) rfl ?_ | refine aw_astoreQ_n (i := 2) (q := 111) dJ23_balanceInsertion_110 rfl (by decide) rfl ?_
              refine aw_ifnonnull_r (tgt := 118) dJ23_balanceInsertion_111 (by decide) ?_
              first | refine aw_aload_n (i := 2) (q := 119) dJ23_balanceInsertion_118 rfl rfl rfl ?_ | refine aw_aloadN_n (i := 2) (q := 119) dJ23_balanceInsertion_118 rfl rfl rfl ?_ | refine aw_aloadQ_n (i := 2) (q := 119) dJ23_balanceInsertion_118 rfl rfl rfl ?_
              refine aw_getfield (q := 122) dJ23_balanceInsertion_119 gf_J23_9_15 (by assumption) rfl rfl ?_
              first | refine aw_astore_n (i := 3) (q := 123) dJ23_balanceInsertion_122 rfl (by decide) rfl ?_ | refine aw_astoreN_n (i := 3) (q := 123) dJ23_balanceInsertion_122 rfl (by decide) rfl ?_ | refine aw_astoreQ_n (i := 3) (q := 123) dJ23_balanceInsertion_122 rfl (by decide) rfl ?_
              have hrt2 : zRpa pa le z x rt = none := zRpa_root hrn hq2 hq (fun c hc => ((hTr x hx).2.1 c hc).2.1)
              exact AW.bud (aw_locals (by exact ⟨rfl, rfl, rfl, rfl, trivial⟩) (bal_L hT2 hTr2 hTB hrt hrt2 hzT e1 e3 e2 e4 (hk.tr hk2))) (by omega) (by omega)
            · have hout : le z = some x := gzx.resolve_right hin
              first | refine aw_aload_n (i := 1) (q := 90) dJ23_balanceInsertion_89 rfl rfl rfl ?_ | refine aw_aloadN_n (i := 1) (q := 90) dJ23_balanceInsertion_89 rfl rfl rfl ?_ | refine aw_aloadQ_n (i := 1) (q := 90) dJ23_balanceInsertion_89 rfl rfl rfl ?_
              first | refine aw_aload_n (i := 2) (q := 91) dJ23_balanceInsertion_90 rfl rfl rfl ?_ | refine aw_aloadN_n (i := 2) (q := 91) dJ23_balanceInsertion_90 rfl rfl rfl ?_ | refine aw_aloadQ_n (i := 2) (q := 91) dJ23_balanceInsertion_90 rfl rfl rfl ?_
              refine aw_getfield (q := 94) dJ23_balanceInsertion_91 gf_J23_42_15 (by assumption) rfl rfl ?_
              first | refine aw_acmpRQ_ne (tgt := 123) (q := 97) dJ23_balanceInsertion_94 (by decide) rfl (fun _ => ?_) (fun hZ => absurd hZ ((fun e => hin ((hT.injO hzrb hBx).mp e.symm))))
              exact AW.bud (aw_locals (by exact ⟨rfl, rfl, rfl, rfl, trivial⟩) (bal_L hT hTr hTB hrt hrn hx hq hout hq2 hwz hk)) (by omega) (by omega)
          have innerR : ri w = some z → AW G 2 MJ23_balanceInsertion (zBal μ R o ν ky vl nx pv B T κ) 0 0 184 [(0, .ref (ν rt)), (1, .ref (ν x)), (2, .ref (ν z)), (3, .ref (ν w))] [] μ1 := by
            intro hwz
            have hz1 := (hT z hBz).2
            by_cases hin : le z = some x
            · skip
              first | refine aw_aload_n (i := 1) (q := 185) dJ23_balanceInsertion_184 rfl rfl rfl ?_ | refine aw_aloadN_n (i := 1) (q := 185) dJ23_balanceInsertion_184 rfl rfl rfl ?_ | refine aw_aloadQ_n (i := 1) (q := 185) dJ23_balanceInsertion_184 rfl rfl rfl ?_
              first | refine aw_aload_n (i := 2) (q := 186) dJ23_balanceInsertion_185 rfl rfl rfl ?_ | refine aw_aloadN_n (i := 2) (q := 186) dJ23_balanceInsertion_185 rfl rfl rfl ?_ | refine aw_aloadQ_n (i := 2) (q := 186) dJ23_balanceInsertion_185 rfl rfl rfl ?_
              refine aw_getfield (q := 189) dJ23_balanceInsertion_186 gf_J23_39_15 (by assumption) rfl rfl ?_
              first | refine aw_acmpRQ_ne (tgt := 218) (q := 192) dJ23_balanceInsertion_189 (by decide) rfl (fun hZ => absurd (by (rw [hin]; rfl)) hZ) (fun _ => ?_)
              first | refine aw_aload_n (i := 0) (q := 193) dJ23_balanceInsertion_192 rfl rfl rfl ?_ | refine aw_aloadN_n (i := 0) (q := 193) dJ23_balanceInsertion_192 rfl rfl rfl ?_ | refine aw_aloadQ_n (i := 0) (q := 193) dJ23_balanceInsertion_192 rfl rfl rfl ?_
              first | refine aw_aload_n (i := 2) (q := 194) dJ23_balanceInsertion_193 rfl rfl rfl ?_ | refine aw_aloadN_n (i := 2) (q := 194) dJ23_balanceInsertion_193 rfl rfl rfl ?_ | refine aw_aloadQ_n (i := 2) (q := 194) dJ23_balanceInsertion_193 rfl rfl rfl ?_
              refine aw_dup (q := 195) dJ23_balanceInsertion_194 (by first | rfl | exact zcat_rf _) rfl ?_
              first | refine aw_astore_n (i := 1) (q := 196) dJ23_balanceInsertion_195 rfl (by decide) rfl ?_ | refine aw_astoreN_n (i := 1) (q := 196) dJ23_balanceInsertion_195 rfl (by decide) rfl ?_ | refine aw_astoreQ_n (i := 1) (q := 196) dJ23_balanceInsertion_195 rfl (by decide) rfl ?_
              refine aw_callS (q := 199) dJ23_balanceInsertion_196 (C_rotateRight (rt := rt) hT hTr hTB hzT hin) cs_J23_133 rfl rfl (by decide) (by decide) (by first | exact Nat.le_of_ble_eq_true rfl | simp [zcat_rf, Value.category]) rfl (fun v196 μ2 hp => ?_)
              obtain ⟨rfl, hT2, hk2⟩ := hp
              obtain ⟨a', b', hTr2⟩ := hTr.rotR hzT hin
              have ert : (if pa z = none then x else rt) = rt := if_neg (by rw [hq2]; simp)
              rw [ert]
              have hz2 := (hT2 z hBz).2
              have hx2 := (hT2 x hBx).2
              have e1 : zRpa pa ri z x z = some x := if_pos rfl
              have e2 : zRpa pa ri z x x = some w := by
                unfold zRpa
                rw [if_neg (Ne.symm nzx), if_pos rfl]
                exact hq2
              have e3 : zRle pa ri z x x = some z := if_pos rfl
              have e4 : zRle pa ri z x w = some x := by
                unfold zRle
                rw [if_neg nwx, if_pos ⟨hq2, hwz⟩]
              rw [e1] at hz2
              rw [e2] at hx2
              simp only [Option.map_some, zrf_s] at hz2 hx2
              first | refine aw_astore_n (i := 0) (q := 200) dJ23_balanceInsertion_199 rfl (by decide) rfl ?_ | refine aw_astoreN_n (i := 0) (q := 200) dJ23_balanceInsertion_199 rfl (by decide) rfl ?_ | refine aw_astoreQ_n (i := 0) (q := 200) dJ23_balanceInsertion_199 rfl (by decide) rfl ?_
              first | refine aw_aload_n (i := 1) (q := 201) dJ23_balanceInsertion_200 rfl rfl rfl ?_ | refine aw_aloadN_n (i := 1) (q := 201) dJ23_balanceInsertion_200 rfl rfl rfl ?_ | refine aw_aloadQ_n (i := 1) (q := 201) dJ23_balanceInsertion_200 rfl rfl rfl ?_
              refine aw_getfield (q := 204) dJ23_balanceInsertion_201 gf_J23_9_15 (by assumption) rfl rfl ?_
              refine aw_dup (q := 205) dJ23_balanceInsertion_204 (by first | rfl | exact zcat_rf _) rfl ?_
              first | refine aw_astore_n (i := 2) (q := 206) dJ23_balanceInsertion_205 rfl (by decide) rfl ?_ | refine aw_astoreN_n (i := 2) (q := 206) dJ23_balanceInsertion_205 rfl (by decide) rfl ?_ | refine aw_astoreQ_n (i := 2) (q := 206) dJ23_balanceInsertion_205 rfl (by decide) rfl ?_
              refine aw_ifnonnull_r (tgt := 213) dJ23_balanceInsertion_206 (by decide) ?_
              first | refine aw_aload_n (i := 2) (q := 214) dJ23_balanceInsertion_213 rfl rfl rfl ?_ | refine aw_aloadN_n (i := 2) (q := 214) dJ23_balanceInsertion_213 rfl rfl rfl ?_ | refine aw_aloadQ_n (i := 2) (q := 214) dJ23_balanceInsertion_213 rfl rfl rfl ?_
              refine aw_getfield (q := 217) dJ23_balanceInsertion_214 gf_J23_9_15 (by assumption) rfl rfl ?_
              first | refine aw_astore_n (i := 3) (q := 218) dJ23_balanceInsertion_217 rfl (by decide) rfl ?_ | refine aw_astoreN_n (i := 3) (q := 218) dJ23_balanceInsertion_217 rfl (by decide) rfl ?_ | refine aw_astoreQ_n (i := 3) (q := 218) dJ23_balanceInsertion_217 rfl (by decide) rfl ?_
              have hrt2 : zRpa pa ri z x rt = none := zRpa_root hrn hq2 hq (fun c hc => ((hTr x hx).2.2.2.1 c hc).2.1)
              exact AW.bud (aw_locals (by exact ⟨rfl, rfl, rfl, rfl, trivial⟩) (bal_R hT2 hTr2 hTB hrt hrt2 hzT e1 e3 e2 e4 (hk.tr hk2))) (by omega) (by omega)
            · have hout : ri z = some x := gzx.resolve_left hin
              first | refine aw_aload_n (i := 1) (q := 185) dJ23_balanceInsertion_184 rfl rfl rfl ?_ | refine aw_aloadN_n (i := 1) (q := 185) dJ23_balanceInsertion_184 rfl rfl rfl ?_ | refine aw_aloadQ_n (i := 1) (q := 185) dJ23_balanceInsertion_184 rfl rfl rfl ?_
              first | refine aw_aload_n (i := 2) (q := 186) dJ23_balanceInsertion_185 rfl rfl rfl ?_ | refine aw_aloadN_n (i := 2) (q := 186) dJ23_balanceInsertion_185 rfl rfl rfl ?_ | refine aw_aloadQ_n (i := 2) (q := 186) dJ23_balanceInsertion_185 rfl rfl rfl ?_
              refine aw_getfield (q := 189) dJ23_balanceInsertion_186 gf_J23_39_15 (by assumption) rfl rfl ?_
              first | refine aw_acmpRQ_ne (tgt := 218) (q := 192) dJ23_balanceInsertion_189 (by decide) rfl (fun _ => ?_) (fun hZ => absurd hZ ((fun e => hin ((hT.injO hzlb hBx).mp e.symm))))
              exact AW.bud (aw_locals (by exact ⟨rfl, rfl, rfl, rfl, trivial⟩) (bal_R hT hTr hTB hrt hrn hx hq hout hq2 hwz hk)) (by omega) (by omega)
          first | refine aw_aload_n (i := 2) (q := 29) dJ23_balanceInsertion_28 rfl rfl rfl ?_ | refine aw_aloadN_n (i := 2) (q := 29) dJ23_balanceInsertion_28 rfl rfl rfl ?_ | refine aw_aloadQ_n (i := 2) (q := 29) dJ23_balanceInsertion_28 rfl rfl rfl ?_
          refine aw_getfield (q := 32) dJ23_balanceInsertion_29 gf_J23_9_15 (by assumption) rfl rfl ?_
          refine aw_dup (q := 33) dJ23_balanceInsertion_32 (by first | rfl | exact zcat_rf _) rfl ?_
          first | refine aw_astore_n (i := 3) (q := 34) dJ23_balanceInsertion_33 rfl (by decide) rfl ?_ | refine aw_astoreN_n (i := 3) (q := 34) dJ23_balanceInsertion_33 rfl (by decide) rfl ?_ | refine aw_astoreQ_n (i := 3) (q := 34) dJ23_balanceInsertion_33 rfl (by decide) rfl ?_
          refine aw_ifnonnull_r (tgt := 39) dJ23_balanceInsertion_34 (by decide) ?_
          first | refine aw_aload_n (i := 2) (q := 40) dJ23_balanceInsertion_39 rfl rfl rfl ?_ | refine aw_aloadN_n (i := 2) (q := 40) dJ23_balanceInsertion_39 rfl rfl rfl ?_ | refine aw_aloadQ_n (i := 2) (q := 40) dJ23_balanceInsertion_39 rfl rfl rfl ?_
          first | refine aw_aload_n (i := 3) (q := 41) dJ23_balanceInsertion_40 rfl rfl rfl ?_ | refine aw_aloadN_n (i := 3) (q := 41) dJ23_balanceInsertion_40 rfl rfl rfl ?_ | refine aw_aloadQ_n (i := 3) (q := 41) dJ23_balanceInsertion_40 rfl rfl rfl ?_
          refine aw_getfield (q := 44) dJ23_balanceInsertion_41 gf_J23_39_15 (by assumption) rfl rfl ?_
          refine aw_dup (q := 45) dJ23_balanceInsertion_44 (by first | rfl | exact zcat_rf _) rfl ?_
          first | refine aw_astore (q := 47) dJ23_balanceInsertion_45 (by decide) rfl ?_ | refine aw_astoreN (q := 47) dJ23_balanceInsertion_45 (by decide) rfl ?_ | refine aw_astoreQ (q := 47) dJ23_balanceInsertion_45 (by decide) rfl ?_
          by_cases hwl : le w = some z
          · first | refine aw_acmpRQ_ne (tgt := 150) (q := 50) dJ23_balanceInsertion_47 (by decide) rfl (fun hZ => absurd (by (rw [hwl]; rfl)) hZ) (fun _ => ?_)
            rw [hwl]
            simp only [Option.map_some, zrf_s]
            obtain ⟨q3, hq3⟩ : ∃ q, ri w = q := ⟨_, rfl⟩
            rw [hq3] at hw1
            cases q3 with
            | none =>
              simp only [Option.map_none, zrf_n] at hw1
              first | refine aw_aload_n (i := 3) (q := 51) dJ23_balanceInsertion_50 rfl rfl rfl ?_ | refine aw_aloadN_n (i := 3) (q := 51) dJ23_balanceInsertion_50 rfl rfl rfl ?_ | refine aw_aloadQ_n (i := 3) (q := 51) dJ23_balanceInsertion_50 rfl rfl rfl ?_
              refine aw_getfield (q := 54) dJ23_balanceInsertion_51 gf_J23_42_15 (by assumption) rfl rfl ?_
              refine aw_dup (q := 55) dJ23_balanceInsertion_54 (by first | rfl | exact zcat_rf _) rfl ?_
              first | refine aw_astore (q := 57) dJ23_balanceInsertion_55 (by decide) rfl ?_ | refine aw_astoreN (q := 57) dJ23_balanceInsertion_55 (by decide) rfl ?_ | refine aw_astoreQ (q := 57) dJ23_balanceInsertion_55 (by decide) rfl ?_
              refine aw_ifnull_n (tgt := 89) dJ23_balanceInsertion_57 (by decide) ?_
              exact AW.bud (aw_locals (by exact ⟨rfl, rfl, rfl, rfl, trivial⟩) (innerL hwl)) (by omega) (by omega)
            | some u =>
              have hu1 := (hT u (hrb u hq3)).2
              simp only [Option.map_some, zrf_s] at hw1
              first | refine aw_aload_n (i := 3) (q := 51) dJ23_balanceInsertion_50 rfl rfl rfl ?_ | refine aw_aloadN_n (i := 3) (q := 51) dJ23_balanceInsertion_50 rfl rfl rfl ?_ | refine aw_aloadQ_n (i := 3) (q := 51) dJ23_balanceInsertion_50 rfl rfl rfl ?_
              refine aw_getfield (q := 54) dJ23_balanceInsertion_51 gf_J23_42_15 (by assumption) rfl rfl ?_
              refine aw_dup (q := 55) dJ23_balanceInsertion_54 (by first | rfl | exact zcat_rf _) rfl ?_
              first | refine aw_astore (q := 57) dJ23_balanceInsertion_55 (by decide) rfl ?_ | refine aw_astoreN (q := 57) dJ23_balanceInsertion_55 (by decide) rfl ?_ | refine aw_astoreQ (q := 57) dJ23_balanceInsertion_55 (by decide) rfl ?_
              refine aw_ifnull_r (q := 60) dJ23_balanceInsertion_57 rfl ?_
              first | refine aw_aload (q := 62) dJ23_balanceInsertion_60 rfl rfl ?_ | refine aw_aloadN (q := 62) dJ23_balanceInsertion_60 rfl rfl ?_ | refine aw_aloadQ (q := 62) dJ23_balanceInsertion_60 rfl rfl ?_
              refine aw_getfield (q := 65) dJ23_balanceInsertion_62 gf_J23_93_15 (by assumption) rfl rfl ?_
              refine aw_if_eq (tgt := 89) (q := 68) dJ23_balanceInsertion_65 (by decide) rfl (fun hur => ?_) (fun hur => ?_)
              · skip
                exact AW.bud (aw_locals (by exact ⟨rfl, rfl, rfl, rfl, trivial⟩) (innerL hwl)) (by omega) (by omega)
              · skip
                exact AW.bud (aw_locals (by exact ⟨rfl, rfl, rfl, rfl, trivial⟩) (recol u (hrb u hq3))) (by omega) (by omega)
          · have hwr : ri w = some z := gwz.resolve_left hwl
            first | refine aw_acmpRQ_ne (tgt := 150) (q := 50) dJ23_balanceInsertion_47 (by decide) rfl (fun _ => ?_) (fun hZ => absurd hZ ((fun e => hwl ((hT.injO hlb hBz).mp e.symm))))
            obtain ⟨q3, hq3⟩ : ∃ q, le w = q := ⟨_, rfl⟩
            rw [hq3]
            cases q3 with
            | none =>
              simp only [Option.map_none, zrf_n]
              first | refine aw_aload (q := 152) dJ23_balanceInsertion_150 rfl rfl ?_ | refine aw_aloadN (q := 152) dJ23_balanceInsertion_150 rfl rfl ?_ | refine aw_aloadQ (q := 152) dJ23_balanceInsertion_150 rfl rfl ?_
              refine aw_ifnull_n (tgt := 184) dJ23_balanceInsertion_152 (by decide) ?_
              exact AW.bud (aw_locals (by exact ⟨rfl, rfl, rfl, rfl, trivial⟩) (innerR hwr)) (by omega) (by omega)
            | some u =>
              have hu1 := (hT u (hlb u hq3)).2
              simp only [Option.map_some, zrf_s]
              first | refine aw_aload (q := 152) dJ23_balanceInsertion_150 rfl rfl ?_ | refine aw_aloadN (q := 152) dJ23_balanceInsertion_150 rfl rfl ?_ | refine aw_aloadQ (q := 152) dJ23_balanceInsertion_150 rfl rfl ?_
              refine aw_ifnull_r (q := 155) dJ23_balanceInsertion_152 rfl ?_
              first | refine aw_aload (q := 157) dJ23_balanceInsertion_155 rfl rfl ?_ | refine aw_aloadN (q := 157) dJ23_balanceInsertion_155 rfl rfl ?_ | refine aw_aloadQ (q := 157) dJ23_balanceInsertion_155 rfl rfl ?_
              refine aw_getfield (q := 160) dJ23_balanceInsertion_157 gf_J23_93_15 (by assumption) rfl rfl ?_
              refine aw_if_eq (tgt := 184) (q := 163) dJ23_balanceInsertion_160 (by decide) rfl (fun hur => ?_) (fun hur => ?_)
              · skip
                exact AW.bud (aw_locals (by exact ⟨rfl, rfl, rfl, rfl, trivial⟩) (innerR hwr)) (by omega) (by omega)
              · skip
                exact AW.bud (aw_locals (by exact ⟨rfl, rfl, rfl, rfl, trivial⟩) (recol2 u (hlb u hq3))) (by omega) (by omega)
/-- balanceInsertion -/
theorem C_balanceInsertion {rt x : Nat} (hT : zTn μ R o ν ky vl nx pa le ri pv rd B) (hTr : zTree T κ pa le ri a b) (hTB : ∀ x, T x → B x) (inj : ∀ x y, T x → T y → κ x = κ y → x = y) (hrt : T rt) (hrn : pa rt = none) (hx : T x) : Meets G 2 MJ23_balanceInsertion [.ref (ν rt), .ref (ν x)] μ (zBal μ R o ν ky vl nx pv B T κ) 0 0 := by
  have hx1 := (hT x (hTB x hx)).2
  refine meets_of (by decide +kernel) (Nat.le_of_ble_eq_true rfl) ?_
  first | refine aw_aload_n (i := 1) (q := 1) dJ23_balanceInsertion_0 rfl rfl rfl ?_ | refine aw_aloadN_n (i := 1) (q := 1) dJ23_balanceInsertion_0 rfl rfl rfl ?_ | refine aw_aloadQ_n (i := 1) (q := 1) dJ23_balanceInsertion_0 rfl rfl rfl ?_
  refine aw_iconst (v := 1) (q := 2) dJ23_balanceInsertion_1 rfl rfl ?_
  refine aw_putfield (q := 5) dJ23_balanceInsertion_2 gf_J23_93_15 hx1 (by first | assumption | simp) (by first | rfl | exact znar_rf _ _ | exact zB_nar _) (by first | rfl | exact zfit_rf _ _ | exact zB_fit _) (Nat.le_of_ble_eq_true rfl) rfl (fun μ1 hg_μ1 => ?_)
  have hx1 : μ1 _ = some _ := hg_μ1 ▸ updM_eq _ _ _
  simp only [List.set] at hx1 hg_μ1
  obtain ⟨hT1, hk1⟩ := hT.p_rd (hTB x hx) 1 hg_μ1
  exact AW.bud (aw_locals (by exact ⟨rfl, rfl, trivial⟩) (bal_loop hTB inj (200000 - (b x - a x)).toNat μ1 pa le ri _ a b rt x hT1 hTr hrt hrn hx (Nat.le_refl _) hk1)) (by omega) (by omega)
end ZBI
