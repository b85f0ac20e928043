/-! TREEIFY: a bin's tree made of its list; a class's cast of what may be null -/
set_option maxRecDepth 100000
section ZCQ
variable {G : zG} {d : Nat} {Y : zMI} {post : Option Value → zM → Prop} {bc bs pc q : Nat} {L : List (Nat × Value)} {S : List Value} {μ : zM}
theorem aw_castQ {r : Option Nat} {idx ci : Nat} {E : String} (hdg : decode Y.2.1 pc = .ok (.checkcast idx, 3)) (hcl : Cond.classLink Y.1.cls idx E ∈ lw_all) (hm : ∀ a, r = some a → ∃ t fs, μ a = some (t, .inr (ci, fs))) (hca : zCast ci E) (hq : pc + 3 = q) (kk : AW G d Y post bc bs q L (va_rf r :: S) μ) : AW G d Y post bc bs pc L (va_rf r :: S) μ := by
  cases r with
  | none => exact aw_castN hdg hq kk
  | some a =>
    obtain ⟨t, fs, h⟩ := hm a rfl
    exact aw_cast hdg hcl h hca hq kk
end ZCQ
theorem zTree.congr {T T' : Nat → Prop} {κ : Nat → Int} {pa le ri pa' le' ri' : Nat → Option Nat} {a b : Nat → Int} (h : zTree T κ pa le ri a b) (hTT : ∀ x, T x ↔ T' x) (e : ∀ x, T x → pa' x = pa x ∧ le' x = le x ∧ ri' x = ri x) : zTree T' κ pa' le' ri' a b := by
  intro x hx'
  have hx := (hTT x).mpr hx'
  obtain ⟨h1, h2, h3, h4, h5, h6, h7⟩ := h x hx
  obtain ⟨e1, e2, e3⟩ := e x hx
  rw [e1, e2, e3]
  refine ⟨h1, fun y hy => ?_, fun hn k hk => h3 hn k ((hTT k).mpr hk), fun y hy => ?_, fun hn k hk => h5 hn k ((hTT k).mpr hk), h6, fun p hp => ?_⟩
  · obtain ⟨g1, g2, g3⟩ := h2 y hy
    exact ⟨(hTT y).mp g1, (e y g1).1.trans g2, g3⟩
  · obtain ⟨g1, g2, g3⟩ := h4 y hy
    exact ⟨(hTT y).mp g1, (e y g1).1.trans g2, g3⟩
  · obtain ⟨g1, g2⟩ := h7 p hp
    obtain ⟨-, f2, f3⟩ := e p g1
    rw [f2, f3]
    exact ⟨(hTT p).mp g1, g2⟩
theorem zTree.one {T : Nat → Prop} {κ : Nat → Int} {pa le ri : Nat → Option Nat} {x : Nat} (hT : ∀ y, T y → y = x) (h1 : pa x = none) (h2 : le x = none) (h3 : ri x = none) (h4 : -100000 < κ x ∧ κ x < 100000) : zTree T κ pa le ri (fun _ => -100000) (fun _ => 100000) := by
  intro y hy
  have e := hT y hy
  subst e
  refine ⟨by dsimp only; omega, fun z hz => ?_, fun _ k hk q => ?_, fun z hz => ?_, fun _ k hk q => ?_, fun _ => ⟨rfl, rfl⟩, fun p hp => ?_⟩
  · rw [h2] at hz; cases hz
  · rw [hT k hk] at q; omega
  · rw [h3] at hz; cases hz
  · rw [hT k hk] at q; omega
  · rw [h1] at hp; cases hp
theorem zTree.leafR {T : Nat → Prop} {κ : Nat → Int} {pa le ri : Nat → Option Nat} {a b : Nat → Int} {x z : Nat} (h : zTree T κ pa le ri a b) (inj : ∀ x y, T x → T y → κ x = κ y → x = y) (hx : T x) (hr : ri x = none) (hz : ¬ T z) (hi : ∀ k, T k → κ k ≠ κ z) (h1 : κ x < κ z) (h2 : κ z < b x) :
    ∃ a' b', zTree (fun k => T k ∨ k = z) κ (va_up pa z (some x)) (va_up le z none) (va_up (va_up ri z none) x (some z)) a' b' := by
  have h3 := (h.mirror.leaf (fun x y hx hy e => inj x y hx hy (by first | omega | (dsimp only at e; omega))) hx hr hz (fun k hk e => hi k hk (by first | omega | (dsimp only at e; omega))) (by first | omega | (dsimp only; omega)) (by first | omega | (dsimp only; omega))).mirror
  simp only [Int.neg_neg] at h3
  exact ⟨_, _, h3⟩
theorem zTree.leafL {T : Nat → Prop} {κ : Nat → Int} {pa le ri : Nat → Option Nat} {a b : Nat → Int} {x z : Nat} (h : zTree T κ pa le ri a b) (inj : ∀ x y, T x → T y → κ x = κ y → x = y) (hx : T x) (hl : le x = none) (hz : ¬ T z) (hi : ∀ k, T k → κ k ≠ κ z) (h1 : a x < κ z) (h2 : κ z < κ x) :
    ∃ a' b', zTree (fun k => T k ∨ k = z) κ (va_up pa z (some x)) (va_up (va_up le z none) x (some z)) (va_up ri z none) a' b' := ⟨_, _, h.leaf inj hx hl hz hi h1 h2⟩
section ZTY
variable {G : zG} {μ : zM} {R o : Nat} {ν ky vl : Nat → Nat} {nx pa le ri pv : Nat → Option Nat} {rd : Nat → Int32}
/-- what treeify leaves: the bin's list is rearranged; its nodes are a tree -/
def zTfd (G : zG) (μ : zM) (R o tb n i : Nat) (ν ky vl : Nat → Nat) (ft : Nat → Option Nat) (l : List Nat) : Option Value → zM → Prop := fun v μ' => v = none ∧ ∃ (nx' pa' le' ri' pv' : Nat → Option Nat) (rd' : Nat → Int32) (a b : Nat → Int) (l' : List Nat), zTn μ' R o ν ky vl nx' pa' le' ri' pv' rd' (· ∈ l) ∧ zTree (· ∈ l) zKap pa' le' ri' a b ∧ μ' tb = some (hbT R o, aN G n (va_up ft i (l'.head?.map ν))) ∧ zCh nx' l' ∧ zPv pv' none l' ∧ l'.Nodup ∧ (∀ x, x ∈ l' ↔ x ∈ l) ∧ zKp (fun c u => c = tb ∨ ∃ h, h ∈ l ∧ u = hnT R o h) μ μ'
set_option maxHeartbeats 4000000 in
theorem C_treeify {tb n k i x0 : Nat} {ft : Nat → Option Nat} {l : List Nat} (hT : zTn μ R o ν ky vl nx pa le ri pv rd (· ∈ l)) (htb : μ tb = some (hbT R o, aN G n ft)) (hn : 2 ^ k = n) (hk : k ≤ 8) (hi : ∀ x, x ∈ l → x % n = i) (hhd : ft i = l.head?.map ν) (hx0 : l.head? = some x0) (hc : zCh nx l) (hv : zPv pv none l) (hnd : l.Nodup) (hR : 1 ≤ R) : Meets G 3 MJ23_treeify [.ref (ν x0), .ref tb] μ (zTfd G μ R o tb n i ν ky vl ft l) 0 0 := by
  have hx0l : x0 ∈ l := List.mem_of_mem_head? hx0
  have tbk : ∀ μ1, zKp (zNt R o (· ∈ l)) μ μ1 → μ1 tb = some (hbT R o, aN G n ft) := by
    intro μ1 hk1
    refine hk1 _ _ _ htb (fun ⟨h, _, e⟩ => ?_)
    have e1 : R + 1 = R + 2 + h := congrArg Prod.fst e
    omega
  refine meets_of (by decide +kernel) (Nat.le_of_ble_eq_true rfl) ?_
  refine aw_null (q := 1) dJ23_treeify_0 rfl ?_
  first | refine aw_astore_n (i := 2) (q := 2) dJ23_treeify_1 rfl (by decide) rfl ?_ | refine aw_astoreN_n (i := 2) (q := 2) dJ23_treeify_1 rfl (by decide) rfl ?_ | refine aw_astoreQ_n (i := 2) (q := 2) dJ23_treeify_1 rfl (by decide) rfl ?_
  first | refine aw_aload_n (i := 0) (q := 3) dJ23_treeify_2 rfl rfl rfl ?_ | refine aw_aloadN_n (i := 0) (q := 3) dJ23_treeify_2 rfl rfl rfl ?_ | refine aw_aloadQ_n (i := 0) (q := 3) dJ23_treeify_2 rfl rfl rfl ?_
  first | refine aw_astore_n (i := 3) (q := 4) dJ23_treeify_3 rfl (by decide) rfl ?_ | refine aw_astoreN_n (i := 3) (q := 4) dJ23_treeify_3 rfl (by decide) rfl ?_ | refine aw_astoreQ_n (i := 3) (q := 4) dJ23_treeify_3 rfl (by decide) rfl ?_
  try simp only [zput, zdel_q]
  have outer : ∀ rest : List Nat, (∀ x, x ∈ rest → x ∈ l) → rest.Nodup → zCh nx rest → ∀ (μ1 : zM) (pa le ri : Nat → Option Nat) (rd : Nat → Int32) (a b : Nat → Int) (r : Option Nat), zTn μ1 R o ν ky vl nx pa le ri pv rd (· ∈ l) → zTree (fun y => y ∈ l ∧ y ∉ rest) zKap pa le ri a b → (r = none → ∀ y, y ∈ l → y ∈ rest) → (∀ rt, r = some rt → (rt ∈ l ∧ rt ∉ rest) ∧ pa rt = none) → zKp (zNt R o (· ∈ l)) μ μ1 → AW G 3 MJ23_treeify (zTfd G μ R o tb n i ν ky vl ft l) 0 0 4 [(1, .ref tb), (2, va_rf (r.map ν)), (3, va_rf (rest.head?.map ν))] [] μ1 := by
    intro rest
    induction rest with
    | nil =>
      intro hrl hrn hrc μ1 pa le ri rd a b r hT hTr hr0 hr1 hk1
      cases r with
      | none => exact absurd (hr0 rfl x0 hx0l) (by simp)
      | some rt =>
        obtain ⟨⟨hrt, -⟩, -⟩ := hr1 rt rfl
        have hhd2 : ft (rt % n) = l.head?.map ν := by rw [hi rt hrt]; exact hhd
        simp only [List.head?_nil, Option.map_some, Option.map_none, zrf_s, zrf_n]
        first | refine aw_aload_n (i := 3) (q := 5) dJ23_treeify_4 rfl rfl rfl ?_ | refine aw_aloadN_n (i := 3) (q := 5) dJ23_treeify_4 rfl rfl rfl ?_ | refine aw_aloadQ_n (i := 3) (q := 5) dJ23_treeify_4 rfl rfl rfl ?_
        refine aw_ifnull_n (tgt := 215) dJ23_treeify_5 (by decide) ?_
        first | refine aw_aload_n (i := 1) (q := 216) dJ23_treeify_215 rfl rfl rfl ?_ | refine aw_aloadN_n (i := 1) (q := 216) dJ23_treeify_215 rfl rfl rfl ?_ | refine aw_aloadQ_n (i := 1) (q := 216) dJ23_treeify_215 rfl rfl rfl ?_
        first | refine aw_aload_n (i := 2) (q := 217) dJ23_treeify_216 rfl rfl rfl ?_ | refine aw_aloadN_n (i := 2) (q := 217) dJ23_treeify_216 rfl rfl rfl ?_ | refine aw_aloadQ_n (i := 2) (q := 217) dJ23_treeify_216 rfl rfl rfl ?_
        refine aw_callS (q := 220) dJ23_treeify_217 (C_moveRootToFront hT (fun x hx => hx) hrt (tbk μ1 hk1) hn hk hhd2 hc hv hnd hR) cs_J23_104 rfl rfl (by decide) (by decide) (by first | exact Nat.le_of_ble_eq_true rfl | simp [zcat_rf, Value.category]) rfl (fun v217 μ2 hp => ?_)
        obtain ⟨rfl, nx', pv', l', m1, m2, m3, m4, m5, m6, m7, m8⟩ := hp
        rw [hi rt hrt] at m2
        have hTr2 : zTree (· ∈ l) zKap pa le ri a b := hTr.congr (fun x => ⟨fun q => q.1, fun q => ⟨q, by simp⟩⟩) (fun x _ => ⟨rfl, rfl, rfl⟩)
        exact aw_return dJ23_treeify_220 rfl (⟨rfl, nx', pa, le, ri, pv', rd, a, b, l', m1, hTr2, m2, m3, m4, m5, m6, (hk1.mono (fun c u q => Or.inr q)).tr m8⟩)
    | cons x rest ih =>
      intro hrl hrn hrc μ1 pa le ri rd a b r hT hTr hr0 hr1 hk1
      have hBx : x ∈ l := hrl x List.mem_cons_self
      have hxr := (List.nodup_cons.mp hrn).1
      have hnxx : nx x = rest.head? := hrc.1
      obtain ⟨hx8, hx1⟩ := hT x hBx
      rw [hnxx] at hx1
      simp only [List.head?_cons, Option.map_some, zrf_s]
      have hcst : ∀ c, (rest.head?.map ν) = some c → ∃ t fs, μ1 c = some (t, .inr (15, fs)) := by
        intro c hcc
        cases rest with
        | nil => cases hcc
        | cons z rest =>
          cases hcc
          exact ⟨_, _, (hT z (hrl z (List.mem_cons_of_mem _ List.mem_cons_self))).2⟩
      first | refine aw_aload_n (i := 3) (q := 5) dJ23_treeify_4 rfl rfl rfl ?_ | refine aw_aloadN_n (i := 3) (q := 5) dJ23_treeify_4 rfl rfl rfl ?_ | refine aw_aloadQ_n (i := 3) (q := 5) dJ23_treeify_4 rfl rfl rfl ?_
      refine aw_ifnull_r (q := 8) dJ23_treeify_5 rfl ?_
      first | refine aw_aload_n (i := 3) (q := 9) dJ23_treeify_8 rfl rfl rfl ?_ | refine aw_aloadN_n (i := 3) (q := 9) dJ23_treeify_8 rfl rfl rfl ?_ | refine aw_aloadQ_n (i := 3) (q := 9) dJ23_treeify_8 rfl rfl rfl ?_
      first | refine aw_getfield (q := 12) dJ23_treeify_9 gf_J23_22_13 (by assumption) rfl rfl ?_ | refine aw_getfield (q := 12) dJ23_treeify_9 gf_J23_22_15 (by assumption) rfl rfl ?_ | refine aw_nd (i := 3) (q := 12) dJ23_treeify_9 gf_J23_22_13 gf_J23_22_15 (by assumption) rfl rfl ?_
      refine aw_castQ (q := 15) dJ23_treeify_12 q744 (hcst) ca_15_J23 rfl ?_
      first | refine aw_astore (q := 17) dJ23_treeify_15 (by decide) rfl ?_ | refine aw_astoreN (q := 17) dJ23_treeify_15 (by decide) rfl ?_ | refine aw_astoreQ (q := 17) dJ23_treeify_15 (by decide) rfl ?_
      try simp only [zput, zdel_q]
      first | refine aw_aload_n (i := 3) (q := 18) dJ23_treeify_17 rfl rfl rfl ?_ | refine aw_aloadN_n (i := 3) (q := 18) dJ23_treeify_17 rfl rfl rfl ?_ | refine aw_aloadQ_n (i := 3) (q := 18) dJ23_treeify_17 rfl rfl rfl ?_
      first | refine aw_aload_n (i := 3) (q := 19) dJ23_treeify_18 rfl rfl rfl ?_ | refine aw_aloadN_n (i := 3) (q := 19) dJ23_treeify_18 rfl rfl rfl ?_ | refine aw_aloadQ_n (i := 3) (q := 19) dJ23_treeify_18 rfl rfl rfl ?_
      refine aw_null (q := 20) dJ23_treeify_19 rfl ?_
      refine aw_dup_x1 (q := 21) dJ23_treeify_20 (by first | rfl | exact zcat_rf _) (by first | rfl | exact zcat_rf _) rfl ?_
      refine aw_putfield (q := 24) dJ23_treeify_21 gf_J23_42_15 hx1 (by first | assumption | simp) (by first | rfl | exact znar_rf _ _ | exact zB_nar _) (by first | rfl | exact zfit_rf _ _ | exact zB_fit _) (Nat.le_of_ble_eq_true rfl) rfl (fun μ2 hg_μ2 => ?_)
      have hx1 : μ2 _ = some _ := hg_μ2 ▸ updM_eq _ _ _
      simp only [List.set] at hx1 hg_μ2
      obtain ⟨hT2, hk2⟩ := hT.p_ri (μ' := μ2) hBx none (by rw [hnxx]; exact hg_μ2)
      refine aw_putfield (q := 27) dJ23_treeify_24 gf_J23_39_15 hx1 (by first | assumption | simp) (by first | rfl | exact znar_rf _ _ | exact zB_nar _) (by first | rfl | exact zfit_rf _ _ | exact zB_fit _) (Nat.le_of_ble_eq_true rfl) rfl (fun μ3 hg_μ3 => ?_)
      have hx1 : μ3 _ = some _ := hg_μ3 ▸ updM_eq _ _ _
      simp only [List.set] at hx1 hg_μ3
      obtain ⟨hT3, hk3⟩ := hT2.p_le (μ' := μ3) hBx none (by rw [hnxx, va_up_self]; exact hg_μ3)
      first | refine aw_aload_n (i := 2) (q := 28) dJ23_treeify_27 rfl rfl rfl ?_ | refine aw_aloadN_n (i := 2) (q := 28) dJ23_treeify_27 rfl rfl rfl ?_ | refine aw_aloadQ_n (i := 2) (q := 28) dJ23_treeify_27 rfl rfl rfl ?_
      cases r with
      | none =>
        simp only [Option.map_none, zrf_n]
        refine aw_ifnonnull_n (q := 31) dJ23_treeify_28 rfl ?_
        first | refine aw_aload_n (i := 3) (q := 32) dJ23_treeify_31 rfl rfl rfl ?_ | refine aw_aloadN_n (i := 3) (q := 32) dJ23_treeify_31 rfl rfl rfl ?_ | refine aw_aloadQ_n (i := 3) (q := 32) dJ23_treeify_31 rfl rfl rfl ?_
        refine aw_null (q := 33) dJ23_treeify_32 rfl ?_
        refine aw_putfield (q := 36) dJ23_treeify_33 gf_J23_9_15 hx1 (by first | assumption | simp) (by first | rfl | exact znar_rf _ _ | exact zB_nar _) (by first | rfl | exact zfit_rf _ _ | exact zB_fit _) (Nat.le_of_ble_eq_true rfl) rfl (fun μ4 hg_μ4 => ?_)
        have hx1 : μ4 _ = some _ := hg_μ4 ▸ updM_eq _ _ _
        simp only [List.set] at hx1 hg_μ4
        obtain ⟨hT4, hk4⟩ := hT3.p_pa (μ' := μ4) hBx none (by rw [hnxx, va_up_self, va_up_self]; exact hg_μ4)
        first | refine aw_aload_n (i := 3) (q := 37) dJ23_treeify_36 rfl rfl rfl ?_ | refine aw_aloadN_n (i := 3) (q := 37) dJ23_treeify_36 rfl rfl rfl ?_ | refine aw_aloadQ_n (i := 3) (q := 37) dJ23_treeify_36 rfl rfl rfl ?_
        refine aw_iconst (v := 0) (q := 38) dJ23_treeify_37 rfl rfl ?_
        refine aw_putfield (q := 41) dJ23_treeify_38 gf_J23_93_15 hx1 (by first | assumption | simp) (by first | rfl | exact znar_rf _ _ | exact zB_nar _) (by first | rfl | exact zfit_rf _ _ | exact zB_fit _) (Nat.le_of_ble_eq_true rfl) rfl (fun μ5 hg_μ5 => ?_)
        have hx1 : μ5 _ = some _ := hg_μ5 ▸ updM_eq _ _ _
        simp only [List.set] at hx1 hg_μ5
        obtain ⟨hT5, hk5⟩ := hT4.p_rd (μ' := μ5) hBx 0 (by rw [hnxx, va_up_self, va_up_self, va_up_self]; exact hg_μ5)
        first | refine aw_aload_n (i := 3) (q := 42) dJ23_treeify_41 rfl rfl rfl ?_ | refine aw_aloadN_n (i := 3) (q := 42) dJ23_treeify_41 rfl rfl rfl ?_ | refine aw_aloadQ_n (i := 3) (q := 42) dJ23_treeify_41 rfl rfl rfl ?_
        first | refine aw_astore_n (i := 2) (q := 43) dJ23_treeify_42 rfl (by decide) rfl ?_ | refine aw_astoreN_n (i := 2) (q := 43) dJ23_treeify_42 rfl (by decide) rfl ?_ | refine aw_astoreQ_n (i := 2) (q := 43) dJ23_treeify_42 rfl (by decide) rfl ?_
        refine aw_goto (tgt := 209) dJ23_treeify_43 (by decide) ?_
        first | refine aw_aload (q := 211) dJ23_treeify_209 rfl rfl ?_ | refine aw_aloadN (q := 211) dJ23_treeify_209 rfl rfl ?_ | refine aw_aloadQ (q := 211) dJ23_treeify_209 rfl rfl ?_
        first | refine aw_astore_n (i := 3) (q := 212) dJ23_treeify_211 rfl (by decide) rfl ?_ | refine aw_astoreN_n (i := 3) (q := 212) dJ23_treeify_211 rfl (by decide) rfl ?_ | refine aw_astoreQ_n (i := 3) (q := 212) dJ23_treeify_211 rfl (by decide) rfl ?_
        try simp only [zput, zdel_q]
        refine aw_goto (tgt := 4) dJ23_treeify_212 (by decide) ?_
        have hone : ∀ y, (y ∈ l ∧ y ∉ rest) → y = x := fun y hy => (List.mem_cons.mp (hr0 rfl y hy.1)).resolve_right hy.2
        have hTr5 : zTree (fun y => y ∈ l ∧ y ∉ rest) zKap (va_up pa x none) (va_up le x none) (va_up ri x none) (fun _ => -100000) (fun _ => 100000) := zTree.one hone (va_up_self _ _ _) (va_up_self _ _ _) (va_up_self _ _ _) (by (show (-100000 : Int) < (x : Int) ∧ (x : Int) < 100000); omega)
        exact AW.bud (aw_locals (by exact ⟨rfl, rfl, rfl, trivial⟩) (ih (fun y hy => hrl y (List.mem_cons_of_mem _ hy)) (List.nodup_cons.mp hrn).2 hrc.2 μ5 _ _ _ _ _ _ (some x) hT5 hTr5 (fun q => by cases q) (fun rt q => by (cases q; exact ⟨⟨hBx, hxr⟩, va_up_self _ _ _⟩)) ((((hk1.tr hk2).tr hk3).tr hk4).tr hk5))) (by omega) (by omega)
      | some rt =>
        obtain ⟨⟨hrt, hrtr⟩, hrtn⟩ := hr1 rt rfl
        simp only [Option.map_some, zrf_s]
        refine aw_ifnonnull_r (tgt := 46) dJ23_treeify_28 (by decide) ?_
        first | refine aw_aload_n (i := 3) (q := 47) dJ23_treeify_46 rfl rfl rfl ?_ | refine aw_aloadN_n (i := 3) (q := 47) dJ23_treeify_46 rfl rfl rfl ?_ | refine aw_aloadQ_n (i := 3) (q := 47) dJ23_treeify_46 rfl rfl rfl ?_
        first | refine aw_getfield (q := 50) dJ23_treeify_47 gf_J23_45_13 (by assumption) rfl rfl ?_ | refine aw_getfield (q := 50) dJ23_treeify_47 gf_J23_45_15 (by assumption) rfl rfl ?_ | refine aw_nd (i := 1) (q := 50) dJ23_treeify_47 gf_J23_45_13 gf_J23_45_15 (by assumption) rfl rfl ?_
        first | refine aw_astore (q := 52) dJ23_treeify_50 (by decide) rfl ?_ | refine aw_astoreN (q := 52) dJ23_treeify_50 (by decide) rfl ?_ | refine aw_astoreQ (q := 52) dJ23_treeify_50 (by decide) rfl ?_
        try simp only [zput, zdel_q]
        first | refine aw_aload_n (i := 3) (q := 53) dJ23_treeify_52 rfl rfl rfl ?_ | refine aw_aloadN_n (i := 3) (q := 53) dJ23_treeify_52 rfl rfl rfl ?_ | refine aw_aloadQ_n (i := 3) (q := 53) dJ23_treeify_52 rfl rfl rfl ?_
        first | refine aw_getfield (q := 56) dJ23_treeify_53 gf_J23_15_13 (by assumption) rfl rfl ?_ | refine aw_getfield (q := 56) dJ23_treeify_53 gf_J23_15_15 (by assumption) rfl rfl ?_ | refine aw_nd (i := 0) (q := 56) dJ23_treeify_53 gf_J23_15_13 gf_J23_15_15 (by assumption) rfl rfl ?_
        refine aw_istore (q := 58) dJ23_treeify_56 (by decide) rfl ?_
        try simp only [zput, zdel_q]
        refine aw_null (q := 59) dJ23_treeify_58 rfl ?_
        first | refine aw_astore (q := 61) dJ23_treeify_59 (by decide) rfl ?_ | refine aw_astoreN (q := 61) dJ23_treeify_59 (by decide) rfl ?_ | refine aw_astoreQ (q := 61) dJ23_treeify_59 (by decide) rfl ?_
        first | refine aw_aload_n (i := 2) (q := 62) dJ23_treeify_61 rfl rfl rfl ?_ | refine aw_aloadN_n (i := 2) (q := 62) dJ23_treeify_61 rfl rfl rfl ?_ | refine aw_aloadQ_n (i := 2) (q := 62) dJ23_treeify_61 rfl rfl rfl ?_
        first | refine aw_astore (q := 64) dJ23_treeify_62 (by decide) rfl ?_ | refine aw_astoreN (q := 64) dJ23_treeify_62 (by decide) rfl ?_ | refine aw_astoreQ (q := 64) dJ23_treeify_62 (by decide) rfl ?_
        try simp only [zput, zdel_q]
        have hTx : ¬ (fun y => y ∈ l ∧ y ∉ x :: rest) x := fun q => q.2 List.mem_cons_self
        have hTor : ∀ y, ((y ∈ l ∧ y ∉ x :: rest) ∨ y = x) ↔ (y ∈ l ∧ y ∉ rest) := by
          intro y
          constructor
          · rintro (q | q)
            · exact ⟨q.1, fun e => q.2 (List.mem_cons_of_mem _ e)⟩
            · subst q; exact ⟨hBx, hxr⟩
          · intro q
            by_cases e : y = x
            · exact Or.inr e
            · exact Or.inl ⟨q.1, fun g => (List.mem_cons.mp g).elim e q.2⟩
        have hki : ∀ j : Nat, (j ∈ l ∧ j ∉ x :: rest) → zKap j ≠ zKap x := by
          intro j hj e
          have e2 : (j : Int) = (x : Int) := e
          have e3 : j = x := by omega
          exact hj.2 (e3 ▸ List.mem_cons_self)
        -- behind the leaf's link: the balance, the next element
        have rest_ : ∀ (μ4 : zM) (pa le ri : Nat → Option Nat) (rd : Nat → Int32) (a b : Nat → Int), zTn μ4 R o ν ky vl nx pa le ri pv rd (· ∈ l) → zTree (fun y => (y ∈ l ∧ y ∉ x :: rest) ∨ y = x) zKap pa le ri a b → pa rt = none → zKp (zNt R o (· ∈ l)) μ μ4 → AW G 3 MJ23_treeify (zTfd G μ R o tb n i ν ky vl ft l) 0 0 197 [(1, .ref tb), (2, .ref (ν rt)), (3, .ref (ν x)), (4, va_rf (rest.head?.map ν))] [] μ4 := by
          intro μ4 pa le ri rd a b hT4 hTr4 hrn4 hk4
          first | refine aw_aload_n (i := 2) (q := 198) dJ23_treeify_197 rfl rfl rfl ?_ | refine aw_aloadN_n (i := 2) (q := 198) dJ23_treeify_197 rfl rfl rfl ?_ | refine aw_aloadQ_n (i := 2) (q := 198) dJ23_treeify_197 rfl rfl rfl ?_
          first | refine aw_aload_n (i := 3) (q := 199) dJ23_treeify_198 rfl rfl rfl ?_ | refine aw_aloadN_n (i := 3) (q := 199) dJ23_treeify_198 rfl rfl rfl ?_ | refine aw_aloadQ_n (i := 3) (q := 199) dJ23_treeify_198 rfl rfl rfl ?_
          refine aw_callS (q := 202) dJ23_treeify_199 (C_balanceInsertion (rt := rt) (x := x) hT4 hTr4 (fun y hy => hy.elim (fun q => q.1) (fun q => q ▸ hBx)) zKap_inj (Or.inl ⟨hrt, hrtr⟩) hrn4 (Or.inr rfl)) cs_J23_100 rfl rfl (by decide) (by decide) (by first | exact Nat.le_of_ble_eq_true rfl | simp [zcat_rf, Value.category]) rfl (fun v199 μ5 hp => ?_)
          obtain ⟨rt', pa', le', ri', a', b', rd', rfl, b1, b2, b3, b4, b5⟩ := hp
          first | refine aw_astore_n (i := 2) (q := 203) dJ23_treeify_202 rfl (by decide) rfl ?_ | refine aw_astoreN_n (i := 2) (q := 203) dJ23_treeify_202 rfl (by decide) rfl ?_ | refine aw_astoreQ_n (i := 2) (q := 203) dJ23_treeify_202 rfl (by decide) rfl ?_
          refine aw_goto (tgt := 209) dJ23_treeify_203 (by decide) ?_
          first | refine aw_aload (q := 211) dJ23_treeify_209 rfl rfl ?_ | refine aw_aloadN (q := 211) dJ23_treeify_209 rfl rfl ?_ | refine aw_aloadQ (q := 211) dJ23_treeify_209 rfl rfl ?_
          first | refine aw_astore_n (i := 3) (q := 212) dJ23_treeify_211 rfl (by decide) rfl ?_ | refine aw_astoreN_n (i := 3) (q := 212) dJ23_treeify_211 rfl (by decide) rfl ?_ | refine aw_astoreQ_n (i := 3) (q := 212) dJ23_treeify_211 rfl (by decide) rfl ?_
          try simp only [zput, zdel_q]
          refine aw_goto (tgt := 4) dJ23_treeify_212 (by decide) ?_
          have b1' := (hTor rt').mp b1
          exact AW.bud (aw_locals (by exact ⟨rfl, rfl, rfl, trivial⟩) (ih (fun y hy => hrl y (List.mem_cons_of_mem _ hy)) (List.nodup_cons.mp hrn).2 hrc.2 μ5 _ _ _ _ _ _ (some rt') b3 (b4.congr hTor (fun _ _ => ⟨rfl, rfl, rfl⟩)) (fun q => by cases q) (fun rt2 q => by (cases q; exact ⟨b1', b2⟩)) (hk4.tr b5))) (by omega) (by omega)
        have inner : ∀ m p, (p ∈ l ∧ p ∉ x :: rest) → a p < (x : Int) → (x : Int) < b p → (b p - a p).toNat ≤ m → AW G 3 MJ23_treeify (zTfd G μ R o tb n i ν ky vl ft l) 0 0 64 [(1, .ref tb), (2, .ref (ν rt)), (3, .ref (ν x)), (4, va_rf (rest.head?.map ν)), (5, .ref (ky x)), (6, .int (nI x)), (7, .null), (8, .ref (ν p))] [] μ3 := by
          intro m
          induction m with
          | zero => intro p hp h1 h2 hm; omega
          | succ m ihm =>
            intro p hp h1 h2 hm
            have hpx : p ≠ x := fun e => hp.2 (e ▸ List.mem_cons_self)
            have hrx : rt ≠ x := fun e => hrtr (e ▸ List.mem_cons_self)
            have hBp := hp.1
            obtain ⟨hp8, hp3⟩ := hT3 p hBp
            rw [va_up_ne _ _ hpx, va_up_ne _ _ hpx] at hp3
            obtain ⟨p1, p2, p3, p4, p5, -, -⟩ := hTr.at hp
            rcases Nat.lt_trichotomy x p with hlt | heq | hgt
            · obtain ⟨q, hq⟩ : ∃ q, le p = q := ⟨_, rfl⟩
              rw [hq] at hp3
              cases q with
              | none =>
                simp only [Option.map_none, zrf_n] at hp3
                first | refine aw_aload (q := 66) dJ23_treeify_64 rfl rfl ?_ | refine aw_aloadN (q := 66) dJ23_treeify_64 rfl rfl ?_ | refine aw_aloadQ (q := 66) dJ23_treeify_64 rfl rfl ?_
                first | refine aw_getfield (q := 69) dJ23_treeify_66 gf_J23_45_13 (by assumption) rfl rfl ?_ | refine aw_getfield (q := 69) dJ23_treeify_66 gf_J23_45_15 (by assumption) rfl rfl ?_ | refine aw_nd (i := 1) (q := 69) dJ23_treeify_66 gf_J23_45_13 gf_J23_45_15 (by assumption) rfl rfl ?_
                first | refine aw_astore (q := 71) dJ23_treeify_69 (by decide) rfl ?_ | refine aw_astoreN (q := 71) dJ23_treeify_69 (by decide) rfl ?_ | refine aw_astoreQ (q := 71) dJ23_treeify_69 (by decide) rfl ?_
                first | refine aw_aload (q := 73) dJ23_treeify_71 rfl rfl ?_ | refine aw_aloadN (q := 73) dJ23_treeify_71 rfl rfl ?_ | refine aw_aloadQ (q := 73) dJ23_treeify_71 rfl rfl ?_
                first | refine aw_getfield (q := 76) dJ23_treeify_73 gf_J23_15_13 (by assumption) rfl rfl ?_ | refine aw_getfield (q := 76) dJ23_treeify_73 gf_J23_15_15 (by assumption) rfl rfl ?_ | refine aw_nd (i := 0) (q := 76) dJ23_treeify_73 gf_J23_15_13 gf_J23_15_15 (by assumption) rfl rfl ?_
                refine aw_dup (q := 77) dJ23_treeify_76 (by first | rfl | exact zcat_rf _) rfl ?_
                refine aw_istore (q := 79) dJ23_treeify_77 (by decide) rfl ?_
                refine aw_iload (q := 81) dJ23_treeify_79 rfl rfl ?_
                refine aw_icmp_le (tgt := 90) (q := 84) dJ23_treeify_81 (by decide) rfl (fun hZ => absurd hZ (nI_ge hlt (by omega))) (fun _ => ?_)
                refine aw_iconst (v := (-1)) (q := 85) dJ23_treeify_84 rfl rfl ?_
                refine aw_istore (q := 87) dJ23_treeify_85 (by decide) rfl ?_
                try simp only [zput, zdel_q]
                refine aw_goto (tgt := 143) dJ23_treeify_87 (by decide) ?_
                first | refine aw_aload (q := 145) dJ23_treeify_143 rfl rfl ?_ | refine aw_aloadN (q := 145) dJ23_treeify_143 rfl rfl ?_ | refine aw_aloadQ (q := 145) dJ23_treeify_143 rfl rfl ?_
                first | refine aw_astore (q := 147) dJ23_treeify_145 (by decide) rfl ?_ | refine aw_astoreN (q := 147) dJ23_treeify_145 (by decide) rfl ?_ | refine aw_astoreQ (q := 147) dJ23_treeify_145 (by decide) rfl ?_
                try simp only [zput, zdel_q]
                refine aw_iload (q := 149) dJ23_treeify_147 rfl rfl ?_
                refine aw_if_gt (tgt := 160) (q := 152) dJ23_treeify_149 (by decide) rfl (fun hZ => absurd hZ ((by decide))) (fun _ => ?_)
                first | refine aw_aload (q := 154) dJ23_treeify_152 rfl rfl ?_ | refine aw_aloadN (q := 154) dJ23_treeify_152 rfl rfl ?_ | refine aw_aloadQ (q := 154) dJ23_treeify_152 rfl rfl ?_
                refine aw_getfield (q := 157) dJ23_treeify_154 gf_J23_39_15 (by assumption) rfl rfl ?_
                refine aw_goto (tgt := 165) dJ23_treeify_157 (by decide) ?_
                refine aw_dup (q := 166) dJ23_treeify_165 (by first | rfl | exact zcat_rf _) rfl ?_
                first | refine aw_astore (q := 168) dJ23_treeify_166 (by decide) rfl ?_ | refine aw_astoreN (q := 168) dJ23_treeify_166 (by decide) rfl ?_ | refine aw_astoreQ (q := 168) dJ23_treeify_166 (by decide) rfl ?_
                try simp only [zput, zdel_q]
                refine aw_ifnonnull_n (q := 171) dJ23_treeify_168 rfl ?_
                first | refine aw_aload_n (i := 3) (q := 172) dJ23_treeify_171 rfl rfl rfl ?_ | refine aw_aloadN_n (i := 3) (q := 172) dJ23_treeify_171 rfl rfl rfl ?_ | refine aw_aloadQ_n (i := 3) (q := 172) dJ23_treeify_171 rfl rfl rfl ?_
                first | refine aw_aload (q := 174) dJ23_treeify_172 rfl rfl ?_ | refine aw_aloadN (q := 174) dJ23_treeify_172 rfl rfl ?_ | refine aw_aloadQ (q := 174) dJ23_treeify_172 rfl rfl ?_
                refine aw_putfield (q := 177) dJ23_treeify_174 gf_J23_9_15 hx1 (by first | assumption | simp) (by first | rfl | exact znar_rf _ _ | exact zB_nar _) (by first | rfl | exact zfit_rf _ _ | exact zB_fit _) (Nat.le_of_ble_eq_true rfl) rfl (fun μ4 hg_μ4 => ?_)
                have hx1 : μ4 _ = some _ := hg_μ4 ▸ updM_eq _ _ _
                simp only [List.set] at hx1 hg_μ4
                obtain ⟨hT4, hk4⟩ := hT3.p_pa (μ' := μ4) hBx (some p) (by rw [hnxx, va_up_self, va_up_self]; exact hg_μ4)
                have hp4 := (hT4 p hBp).2
                refine aw_iload (q := 179) dJ23_treeify_177 rfl rfl ?_
                refine aw_if_gt (tgt := 191) (q := 182) dJ23_treeify_179 (by decide) rfl (fun hZ => absurd hZ ((by decide))) (fun _ => ?_)
                first | refine aw_aload (q := 184) dJ23_treeify_182 rfl rfl ?_ | refine aw_aloadN (q := 184) dJ23_treeify_182 rfl rfl ?_ | refine aw_aloadQ (q := 184) dJ23_treeify_182 rfl rfl ?_
                first | refine aw_aload_n (i := 3) (q := 185) dJ23_treeify_184 rfl rfl rfl ?_ | refine aw_aloadN_n (i := 3) (q := 185) dJ23_treeify_184 rfl rfl rfl ?_ | refine aw_aloadQ_n (i := 3) (q := 185) dJ23_treeify_184 rfl rfl rfl ?_
                refine aw_putfield (q := 188) dJ23_treeify_185 gf_J23_39_15 hp4 (by first | assumption | simp) (by first | rfl | exact znar_rf _ _ | exact zB_nar _) (by first | rfl | exact zfit_rf _ _ | exact zB_fit _) (Nat.le_of_ble_eq_true rfl) rfl (fun μ5 hg_μ5 => ?_)
                have hp4 : μ5 _ = some _ := hg_μ5 ▸ updM_eq _ _ _
                simp only [List.set] at hp4 hg_μ5
                obtain ⟨hT5, hk5⟩ := hT4.p_le hBp (some x) hg_μ5
                obtain ⟨a', b', hTr5⟩ := hTr.leafL zKap_inj hp hq hTx hki h1 (show (x : Int) < (p : Int) by omega)
                refine aw_goto (tgt := 197) dJ23_treeify_188 (by decide) ?_
                exact AW.bud (aw_locals (by exact ⟨rfl, rfl, rfl, rfl, trivial⟩) (rest_ μ5 _ _ _ _ a' b' hT5 hTr5 ((va_up_ne _ _ hrx).trans hrtn) ((((hk1.tr hk2).tr hk3).tr hk4).tr hk5))) (by omega) (by omega)
              | some y =>
                obtain ⟨y1, y2, y3, y4⟩ := p2 y hq
                simp only [Option.map_some, zrf_s] at hp3
                first | refine aw_aload (q := 66) dJ23_treeify_64 rfl rfl ?_ | refine aw_aloadN (q := 66) dJ23_treeify_64 rfl rfl ?_ | refine aw_aloadQ (q := 66) dJ23_treeify_64 rfl rfl ?_
                first | refine aw_getfield (q := 69) dJ23_treeify_66 gf_J23_45_13 (by assumption) rfl rfl ?_ | refine aw_getfield (q := 69) dJ23_treeify_66 gf_J23_45_15 (by assumption) rfl rfl ?_ | refine aw_nd (i := 1) (q := 69) dJ23_treeify_66 gf_J23_45_13 gf_J23_45_15 (by assumption) rfl rfl ?_
                first | refine aw_astore (q := 71) dJ23_treeify_69 (by decide) rfl ?_ | refine aw_astoreN (q := 71) dJ23_treeify_69 (by decide) rfl ?_ | refine aw_astoreQ (q := 71) dJ23_treeify_69 (by decide) rfl ?_
                first | refine aw_aload (q := 73) dJ23_treeify_71 rfl rfl ?_ | refine aw_aloadN (q := 73) dJ23_treeify_71 rfl rfl ?_ | refine aw_aloadQ (q := 73) dJ23_treeify_71 rfl rfl ?_
                first | refine aw_getfield (q := 76) dJ23_treeify_73 gf_J23_15_13 (by assumption) rfl rfl ?_ | refine aw_getfield (q := 76) dJ23_treeify_73 gf_J23_15_15 (by assumption) rfl rfl ?_ | refine aw_nd (i := 0) (q := 76) dJ23_treeify_73 gf_J23_15_13 gf_J23_15_15 (by assumption) rfl rfl ?_
                refine aw_dup (q := 77) dJ23_treeify_76 (by first | rfl | exact zcat_rf _) rfl ?_
                refine aw_istore (q := 79) dJ23_treeify_77 (by decide) rfl ?_
                refine aw_iload (q := 81) dJ23_treeify_79 rfl rfl ?_
                refine aw_icmp_le (tgt := 90) (q := 84) dJ23_treeify_81 (by decide) rfl (fun hZ => absurd hZ (nI_ge hlt (by omega))) (fun _ => ?_)
                refine aw_iconst (v := (-1)) (q := 85) dJ23_treeify_84 rfl rfl ?_
                refine aw_istore (q := 87) dJ23_treeify_85 (by decide) rfl ?_
                try simp only [zput, zdel_q]
                refine aw_goto (tgt := 143) dJ23_treeify_87 (by decide) ?_
                first | refine aw_aload (q := 145) dJ23_treeify_143 rfl rfl ?_ | refine aw_aloadN (q := 145) dJ23_treeify_143 rfl rfl ?_ | refine aw_aloadQ (q := 145) dJ23_treeify_143 rfl rfl ?_
                first | refine aw_astore (q := 147) dJ23_treeify_145 (by decide) rfl ?_ | refine aw_astoreN (q := 147) dJ23_treeify_145 (by decide) rfl ?_ | refine aw_astoreQ (q := 147) dJ23_treeify_145 (by decide) rfl ?_
                try simp only [zput, zdel_q]
                refine aw_iload (q := 149) dJ23_treeify_147 rfl rfl ?_
                refine aw_if_gt (tgt := 160) (q := 152) dJ23_treeify_149 (by decide) rfl (fun hZ => absurd hZ ((by decide))) (fun _ => ?_)
                first | refine aw_aload (q := 154) dJ23_treeify_152 rfl rfl ?_ | refine aw_aloadN (q := 154) dJ23_treeify_152 rfl rfl ?_ | refine aw_aloadQ (q := 154) dJ23_treeify_152 rfl rfl ?_
                refine aw_getfield (q := 157) dJ23_treeify_154 gf_J23_39_15 (by assumption) rfl rfl ?_
                refine aw_goto (tgt := 165) dJ23_treeify_157 (by decide) ?_
                refine aw_dup (q := 166) dJ23_treeify_165 (by first | rfl | exact zcat_rf _) rfl ?_
                first | refine aw_astore (q := 168) dJ23_treeify_166 (by decide) rfl ?_ | refine aw_astoreN (q := 168) dJ23_treeify_166 (by decide) rfl ?_ | refine aw_astoreQ (q := 168) dJ23_treeify_166 (by decide) rfl ?_
                try simp only [zput, zdel_q]
                refine aw_ifnonnull_r (tgt := 206) dJ23_treeify_168 (by decide) ?_
                refine aw_goto (tgt := 64) dJ23_treeify_206 (by decide) ?_
                exact AW.bud (aw_locals (by exact ⟨rfl, rfl, rfl, rfl, rfl, rfl, rfl, rfl, trivial⟩) (ihm y y1 (by omega) (by omega) (by omega))) (by omega) (by omega)
            · exact absurd heq.symm hpx
            · obtain ⟨q, hq⟩ : ∃ q, ri p = q := ⟨_, rfl⟩
              rw [hq] at hp3
              cases q with
              | none =>
                simp only [Option.map_none, zrf_n] at hp3
                first | refine aw_aload (q := 66) dJ23_treeify_64 rfl rfl ?_ | refine aw_aloadN (q := 66) dJ23_treeify_64 rfl rfl ?_ | refine aw_aloadQ (q := 66) dJ23_treeify_64 rfl rfl ?_
                first | refine aw_getfield (q := 69) dJ23_treeify_66 gf_J23_45_13 (by assumption) rfl rfl ?_ | refine aw_getfield (q := 69) dJ23_treeify_66 gf_J23_45_15 (by assumption) rfl rfl ?_ | refine aw_nd (i := 1) (q := 69) dJ23_treeify_66 gf_J23_45_13 gf_J23_45_15 (by assumption) rfl rfl ?_
                first | refine aw_astore (q := 71) dJ23_treeify_69 (by decide) rfl ?_ | refine aw_astoreN (q := 71) dJ23_treeify_69 (by decide) rfl ?_ | refine aw_astoreQ (q := 71) dJ23_treeify_69 (by decide) rfl ?_
                first | refine aw_aload (q := 73) dJ23_treeify_71 rfl rfl ?_ | refine aw_aloadN (q := 73) dJ23_treeify_71 rfl rfl ?_ | refine aw_aloadQ (q := 73) dJ23_treeify_71 rfl rfl ?_
                first | refine aw_getfield (q := 76) dJ23_treeify_73 gf_J23_15_13 (by assumption) rfl rfl ?_ | refine aw_getfield (q := 76) dJ23_treeify_73 gf_J23_15_15 (by assumption) rfl rfl ?_ | refine aw_nd (i := 0) (q := 76) dJ23_treeify_73 gf_J23_15_13 gf_J23_15_15 (by assumption) rfl rfl ?_
                refine aw_dup (q := 77) dJ23_treeify_76 (by first | rfl | exact zcat_rf _) rfl ?_
                refine aw_istore (q := 79) dJ23_treeify_77 (by decide) rfl ?_
                refine aw_iload (q := 81) dJ23_treeify_79 rfl rfl ?_
                refine aw_icmp_le (tgt := 90) (q := 84) dJ23_treeify_81 (by decide) rfl (fun _ => ?_) (fun hZ => absurd (nI_le (by omega) (by omega)) hZ)
                refine aw_iload (q := 92) dJ23_treeify_90 rfl rfl ?_
                refine aw_iload (q := 94) dJ23_treeify_92 rfl rfl ?_
                refine aw_icmp_ge (tgt := 103) (q := 97) dJ23_treeify_94 (by decide) rfl (fun hZ => absurd hZ (nI_ge hgt (by omega))) (fun _ => ?_)
                refine aw_iconst (v := 1) (q := 98) dJ23_treeify_97 rfl rfl ?_
                refine aw_istore (q := 100) dJ23_treeify_98 (by decide) rfl ?_
                try simp only [zput, zdel_q]
                refine aw_goto (tgt := 143) dJ23_treeify_100 (by decide) ?_
                first | refine aw_aload (q := 145) dJ23_treeify_143 rfl rfl ?_ | refine aw_aloadN (q := 145) dJ23_treeify_143 rfl rfl ?_ | refine aw_aloadQ (q := 145) dJ23_treeify_143 rfl rfl ?_
                first | refine aw_astore (q := 147) dJ23_treeify_145 (by decide) rfl ?_ | refine aw_astoreN (q := 147) dJ23_treeify_145 (by decide) rfl ?_ | refine aw_astoreQ (q := 147) dJ23_treeify_145 (by decide) rfl ?_
                try simp only [zput, zdel_q]
                refine aw_iload (q := 149) dJ23_treeify_147 rfl rfl ?_
                refine aw_if_gt (tgt := 160) (q := 152) dJ23_treeify_149 (by decide) rfl (fun _ => ?_) (fun hZ => absurd ((by decide)) hZ)
                first | refine aw_aload (q := 162) dJ23_treeify_160 rfl rfl ?_ | refine aw_aloadN (q := 162) dJ23_treeify_160 rfl rfl ?_ | refine aw_aloadQ (q := 162) dJ23_treeify_160 rfl rfl ?_
                refine aw_getfield (q := 165) dJ23_treeify_162 gf_J23_42_15 (by assumption) rfl rfl ?_
                refine aw_dup (q := 166) dJ23_treeify_165 (by first | rfl | exact zcat_rf _) rfl ?_
                first | refine aw_astore (q := 168) dJ23_treeify_166 (by decide) rfl ?_ | refine aw_astoreN (q := 168) dJ23_treeify_166 (by decide) rfl ?_ | refine aw_astoreQ (q := 168) dJ23_treeify_166 (by decide) rfl ?_
                try simp only [zput, zdel_q]
                refine aw_ifnonnull_n (q := 171) dJ23_treeify_168 rfl ?_
                first | refine aw_aload_n (i := 3) (q := 172) dJ23_treeify_171 rfl rfl rfl ?_ | refine aw_aloadN_n (i := 3) (q := 172) dJ23_treeify_171 rfl rfl rfl ?_ | refine aw_aloadQ_n (i := 3) (q := 172) dJ23_treeify_171 rfl rfl rfl ?_
                first | refine aw_aload (q := 174) dJ23_treeify_172 rfl rfl ?_ | refine aw_aloadN (q := 174) dJ23_treeify_172 rfl rfl ?_ | refine aw_aloadQ (q := 174) dJ23_treeify_172 rfl rfl ?_
                refine aw_putfield (q := 177) dJ23_treeify_174 gf_J23_9_15 hx1 (by first | assumption | simp) (by first | rfl | exact znar_rf _ _ | exact zB_nar _) (by first | rfl | exact zfit_rf _ _ | exact zB_fit _) (Nat.le_of_ble_eq_true rfl) rfl (fun μ4 hg_μ4 => ?_)
                have hx1 : μ4 _ = some _ := hg_μ4 ▸ updM_eq _ _ _
                simp only [List.set] at hx1 hg_μ4
                obtain ⟨hT4, hk4⟩ := hT3.p_pa (μ' := μ4) hBx (some p) (by rw [hnxx, va_up_self, va_up_self]; exact hg_μ4)
                have hp4 := (hT4 p hBp).2
                refine aw_iload (q := 179) dJ23_treeify_177 rfl rfl ?_
                refine aw_if_gt (tgt := 191) (q := 182) dJ23_treeify_179 (by decide) rfl (fun _ => ?_) (fun hZ => absurd ((by decide)) hZ)
                first | refine aw_aload (q := 193) dJ23_treeify_191 rfl rfl ?_ | refine aw_aloadN (q := 193) dJ23_treeify_191 rfl rfl ?_ | refine aw_aloadQ (q := 193) dJ23_treeify_191 rfl rfl ?_
                first | refine aw_aload_n (i := 3) (q := 194) dJ23_treeify_193 rfl rfl rfl ?_ | refine aw_aloadN_n (i := 3) (q := 194) dJ23_treeify_193 rfl rfl rfl ?_ | refine aw_aloadQ_n (i := 3) (q := 194) dJ23_treeify_193 rfl rfl rfl ?_
                refine aw_putfield (q := 197) dJ23_treeify_194 gf_J23_42_15 hp4 (by first | assumption | simp) (by first | rfl | exact znar_rf _ _ | exact zB_nar _) (by first | rfl | exact zfit_rf _ _ | exact zB_fit _) (Nat.le_of_ble_eq_true rfl) rfl (fun μ5 hg_μ5 => ?_)
                have hp4 : μ5 _ = some _ := hg_μ5 ▸ updM_eq _ _ _
                simp only [List.set] at hp4 hg_μ5
                obtain ⟨hT5, hk5⟩ := hT4.p_ri hBp (some x) hg_μ5
                obtain ⟨a', b', hTr5⟩ := hTr.leafR zKap_inj hp hq hTx hki (show (p : Int) < (x : Int) by omega) h2
                exact AW.bud (aw_locals (by exact ⟨rfl, rfl, rfl, rfl, trivial⟩) (rest_ μ5 _ _ _ _ a' b' hT5 hTr5 ((va_up_ne _ _ hrx).trans hrtn) ((((hk1.tr hk2).tr hk3).tr hk4).tr hk5))) (by omega) (by omega)
              | some y =>
                obtain ⟨y1, y2, y3, y4⟩ := p4 y hq
                simp only [Option.map_some, zrf_s] at hp3
                first | refine aw_aload (q := 66) dJ23_treeify_64 rfl rfl ?_ | refine aw_aloadN (q := 66) dJ23_treeify_64 rfl rfl ?_ | refine aw_aloadQ (q := 66) dJ23_treeify_64 rfl rfl ?_
                first | refine aw_getfield (q := 69) dJ23_treeify_66 gf_J23_45_13 (by assumption) rfl rfl ?_ | refine aw_getfield (q := 69) dJ23_treeify_66 gf_J23_45_15 (by assumption) rfl rfl ?_ | refine aw_nd (i := 1) (q := 69) dJ23_treeify_66 gf_J23_45_13 gf_J23_45_15 (by assumption) rfl rfl ?_
                first | refine aw_astore (q := 71) dJ23_treeify_69 (by decide) rfl ?_ | refine aw_astoreN (q := 71) dJ23_treeify_69 (by decide) rfl ?_ | refine aw_astoreQ (q := 71) dJ23_treeify_69 (by decide) rfl ?_
                first | refine aw_aload (q := 73) dJ23_treeify_71 rfl rfl ?_ | refine aw_aloadN (q := 73) dJ23_treeify_71 rfl rfl ?_ | refine aw_aloadQ (q := 73) dJ23_treeify_71 rfl rfl ?_
                first | refine aw_getfield (q := 76) dJ23_treeify_73 gf_J23_15_13 (by assumption) rfl rfl ?_ | refine aw_getfield (q := 76) dJ23_treeify_73 gf_J23_15_15 (by assumption) rfl rfl ?_ | refine aw_nd (i := 0) (q := 76) dJ23_treeify_73 gf_J23_15_13 gf_J23_15_15 (by assumption) rfl rfl ?_
                refine aw_dup (q := 77) dJ23_treeify_76 (by first | rfl | exact zcat_rf _) rfl ?_
                refine aw_istore (q := 79) dJ23_treeify_77 (by decide) rfl ?_
                refine aw_iload (q := 81) dJ23_treeify_79 rfl rfl ?_
                refine aw_icmp_le (tgt := 90) (q := 84) dJ23_treeify_81 (by decide) rfl (fun _ => ?_) (fun hZ => absurd (nI_le (by omega) (by omega)) hZ)
                refine aw_iload (q := 92) dJ23_treeify_90 rfl rfl ?_
                refine aw_iload (q := 94) dJ23_treeify_92 rfl rfl ?_
                refine aw_icmp_ge (tgt := 103) (q := 97) dJ23_treeify_94 (by decide) rfl (fun hZ => absurd hZ (nI_ge hgt (by omega))) (fun _ => ?_)
                refine aw_iconst (v := 1) (q := 98) dJ23_treeify_97 rfl rfl ?_
                refine aw_istore (q := 100) dJ23_treeify_98 (by decide) rfl ?_
                try simp only [zput, zdel_q]
                refine aw_goto (tgt := 143) dJ23_treeify_100 (by decide) ?_
                first | refine aw_aload (q := 145) dJ23_treeify_143 rfl rfl ?_ | refine aw_aloadN (q := 145) dJ23_treeify_143 rfl rfl ?_ | refine aw_aloadQ (q := 145) dJ23_treeify_143 rfl rfl ?_
                first | refine aw_astore (q := 147) dJ23_treeify_145 (by decide) rfl ?_ | refine aw_astoreN (q := 147) dJ23_treeify_145 (by decide) rfl ?_ | refine aw_astoreQ (q := 147) dJ23_treeify_145 (by decide) rfl ?_
                try simp only [zput, zdel_q]
                refine aw_iload (q := 149) dJ23_treeify_147 rfl rfl ?_
                refine aw_if_gt (tgt := 160) (q := 152) dJ23_treeify_149 (by decide) rfl (fun _ => ?_) (fun hZ => absurd ((by decide)) hZ)
                first | refine aw_aload (q := 162) dJ23_treeify_160 rfl rfl ?_ | refine aw_aloadN (q := 162) dJ23_treeify_160 rfl rfl ?_ | refine aw_aloadQ (q := 162) dJ23_treeify_160 rfl rfl ?_
                refine aw_getfield (q := 165) dJ23_treeify_162 gf_J23_42_15 (by assumption) rfl rfl ?_
                refine aw_dup (q := 166) dJ23_treeify_165 (by first | rfl | exact zcat_rf _) rfl ?_
                first | refine aw_astore (q := 168) dJ23_treeify_166 (by decide) rfl ?_ | refine aw_astoreN (q := 168) dJ23_treeify_166 (by decide) rfl ?_ | refine aw_astoreQ (q := 168) dJ23_treeify_166 (by decide) rfl ?_
                try simp only [zput, zdel_q]
                refine aw_ifnonnull_r (tgt := 206) dJ23_treeify_168 (by decide) ?_
                refine aw_goto (tgt := 64) dJ23_treeify_206 (by decide) ?_
                exact AW.bud (aw_locals (by exact ⟨rfl, rfl, rfl, rfl, rfl, rfl, rfl, rfl, trivial⟩) (ihm y y1 (by omega) (by omega) (by omega))) (by omega) (by omega)
        obtain ⟨r1, -, -, -, -, r6, -⟩ := hTr.at ⟨hrt, hrtr⟩
        obtain ⟨e1, e2⟩ := r6 hrtn
        exact AW.bud (aw_locals (by exact ⟨rfl, rfl, rfl, rfl, rfl, rfl, rfl, rfl, trivial⟩) (inner _ rt ⟨hrt, hrtr⟩ (by omega) (by omega) (Nat.le_refl _))) (by omega) (by omega)
  have hf : l.head?.map ν = some (ν x0) := by rw [hx0]; rfl
  have hTr0 : zTree (fun y => y ∈ l ∧ y ∉ l) zKap pa le ri (fun _ => 0) (fun _ => 0) := fun x hx => absurd hx.1 hx.2
  exact AW.bud (aw_locals (by exact ⟨rfl, rfl, by (rw [hf]; rfl), trivial⟩) (outer l (fun _ h => h) hnd hc μ pa le ri rd _ _ none hT hTr0 (fun _ y hy => hy) (fun rt q => by cases q) zKp.rf)) (by omega) (by omega)
end ZTY
