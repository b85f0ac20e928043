/-! THE PROGRAMME: seats are given back, a booking is added -/
set_option maxRecDepth 100000
section ZPF
variable {G : zG} {μ : zM} {p o : Nat} {P : zP} {A : Nat → Nat → Nat} {c : Nat → Int32}
abbrev zA1 (A : Nat → Nat → Nat) (s0 n x : Nat) : Nat → Nat → Nat := fun s => if s = s0 then upN (A s0) n x else A s
/-- an object is added to a list -/
theorem zPR.add {T : Nat → zT → Prop} {μ' : zM} {P' : zP} {B : Nat → Nat → Prop} {s0 x : Nat} {cs : Int32} (h : zPR G μ p o P A c) (hO : tOk P) (hs0 : zS s0) (hk : zKp T μ μ') (hT : ∀ b u, T b u → (u = lsT s0 o ∨ u = laT s0 o) ∨ ∃ s i, zS s ∧ i < 400 ∧ B s i ∧ (u = obT s i o ∨ u = oaT s i o)) (h0 : ∀ j, j ≠ 6 + s0 → P' 0 0 j = P 0 0 j) (hcn : pcn P' (6 + s0) = pcn P (6 + s0) + 1) (hL : zAL G μ' (lsT s0 o) (laT s0 o) (A 7 s0) cs (pcn P (6 + s0) + 1) (upN (A s0) (pcn P (6 + s0)) x)) (hx : zO G μ' o P' x s0 (pcn P (6 + s0))) (hB : ∀ s i, zS s → i < pcn P (6 + s) → B s i → zO G μ' o P' (A s i) s i) (hN : ∀ s i, zS s → i < pcn P (6 + s) → ¬ B s i → zSm P P' s i) : zPR G μ' p o P' (zA1 A s0 (pcn P (6 + s0)) x) (upd c s0 cs) := by
  obtain ⟨h1, ⟨f, h2, h3⟩, h4⟩ := h
  have s0l := hs0.lt
  have s05 : s0 ≠ 5 := by unfold zS at hs0; omega
  have lo : ∀ b n, n < 30000 → n ≠ 20010 + 2 * s0 → n ≠ 20011 + 2 * s0 → ¬ T b (n, o) := by
    rintro b n hn n1 n2 q
    rcases hT _ _ q with (q | q) | ⟨s, i, -, -, -, q | q⟩
    · exact n1 (congrArg Prod.fst q)
    · exact n2 (congrArg Prod.fst q)
    · have e : n = 30000 + 1000 * s + 2 * i := congrArg Prod.fst q
      omega
    · have e : n = 30001 + 1000 * s + 2 * i := congrArg Prod.fst q
      omega
  have lo0 : ∀ b, ¬ T b (0, 0) := by
    rintro b q
    rcases hT _ _ q with (q | q) | ⟨s, i, -, -, -, q | q⟩
    · have e : 0 = 20010 + 2 * s0 := congrArg Prod.fst q
      omega
    · have e : 0 = 20011 + 2 * s0 := congrArg Prod.fst q
      omega
    · have e : 0 = 30000 + 1000 * s + 2 * i := congrArg Prod.fst q
      omega
    · have e : 0 = 30001 + 1000 * s + 2 * i := congrArg Prod.fst q
      omega
  have ec : ∀ j, j ≠ 6 + s0 → pcn P' j = pcn P j := fun j hj => by unfold pcn; rw [h0 j hj]
  have ob : ∀ s i, zS s → i < pcn P (6 + s) → zO G μ' o P' (A s i) s i := by
    intro s i hs hi
    have sl := hs.lt
    by_cases hb : B s i
    · exact hB s i hs hi hb
    · have hib := hO.pb hs
      refine ((h4 s hs).2 i hi).kp hs hk lo0 (fun b q => ?_) (fun b q => ?_) (hN s i hs hi hb)
      · rcases hT _ _ q with (q | q) | ⟨s', i', hs', hi', hb', q | q⟩
        · have e : 30000 + 1000 * s + 2 * i = 20010 + 2 * s0 := congrArg Prod.fst q
          omega
        · have e : 30000 + 1000 * s + 2 * i = 20011 + 2 * s0 := congrArg Prod.fst q
          omega
        · have e : 30000 + 1000 * s + 2 * i = 30000 + 1000 * s' + 2 * i' := congrArg Prod.fst q
          have es : s = s' := by omega
          have ei : i = i' := by omega
          exact hb (es ▸ ei ▸ hb')
        · have e : 30000 + 1000 * s + 2 * i = 30001 + 1000 * s' + 2 * i' := congrArg Prod.fst q
          omega
      · rcases hT _ _ q with (q | q) | ⟨s', i', hs', hi', hb', q | q⟩
        · have e : 30001 + 1000 * s + 2 * i = 20010 + 2 * s0 := congrArg Prod.fst q
          omega
        · have e : 30001 + 1000 * s + 2 * i = 20011 + 2 * s0 := congrArg Prod.fst q
          omega
        · have e : 30001 + 1000 * s + 2 * i = 30000 + 1000 * s' + 2 * i' := congrArg Prod.fst q
          omega
        · have e : 30001 + 1000 * s + 2 * i = 30001 + 1000 * s' + 2 * i' := congrArg Prod.fst q
          have es : s = s' := by omega
          have ei : i = i' := by omega
          exact hb (es ▸ ei ▸ hb')
  have A0 : zA1 A s0 (pcn P (6 + s0)) x 0 = A 0 := if_neg (by omega)
  have A7 : zA1 A s0 (pcn P (6 + s0)) x 7 = A 7 := if_neg (by omega)
  refine ⟨?_, ⟨f, ?_, fun j hj => (h3 j hj).trans (h0 j (by omega)).symm⟩, fun s hs => ?_⟩
  · show μ' p = some (pgT 0 o, .inr (1, [.ref (zA1 A s0 (pcn P (6 + s0)) x 0 0), .ref (zA1 A s0 (pcn P (6 + s0)) x 7 1), .ref (zA1 A s0 (pcn P (6 + s0)) x 7 2), .ref (zA1 A s0 (pcn P (6 + s0)) x 7 3), .ref (zA1 A s0 (pcn P (6 + s0)) x 7 4), .ref (zA1 A s0 (pcn P (6 + s0)) x 7 6), .ref (zA1 A s0 (pcn P (6 + s0)) x 0 1), .ref (zA1 A s0 (pcn P (6 + s0)) x 0 2), .int (P' 0 0 11), .int (P' 0 0 6), .int (upd c s0 cs 0)]))
    rw [A0, A7, h0 11 (by omega), h0 6 (by omega), pk_un (by omega)]
    exact hk _ _ _ h1 (lo _ _ (by omega) (by omega) (by omega))
  · rw [A0]
    exact hk _ _ _ h2 (lo _ _ (by omega) (by omega) (by omega))
  · obtain ⟨g1, g2⟩ := h4 s hs
    have sl := hs.lt
    rw [A7]
    by_cases e : s = s0
    · subst e
      have As : zA1 A s (pcn P (6 + s)) x s = upN (A s) (pcn P (6 + s)) x := if_pos rfl
      rw [As, pk_us, hcn]
      refine ⟨hL, fun i hi => ?_⟩
      by_cases ei : i = pcn P (6 + s)
      · subst ei; rw [upN_eq]; exact hx
      · rw [upN_ne ei]; exact ob s i hs (by omega)
    · have As : zA1 A s0 (pcn P (6 + s0)) x s = A s := if_neg e
      rw [As, pk_un e, ec _ (by omega)]
      exact ⟨g1.kp hk (fun b => lo _ _ (by omega) (by omega) (by omega)) (fun b => lo _ _ (by omega) (by omega) (by omega)), fun i hi => ob s i hs hi⟩
theorem pk100 : (100 : Int32) ≠ 0 := by decide
set_option maxHeartbeats 16000000 in
theorem C_giveBack {b : Nat} (h : zPR G μ p o P A c) (hO : tOk P) (hB : tBkOk P) (hb : b < pcn P 10) : Meets G 6 MX1_giveBack [.ref p, .ref (A 4 b)] μ (fun v μ' => v = some (.int (tBack P b)) ∧ zPR G μ' p o (tVacate (tTally P b 4) b 3 (tBack P b)) A c ∧ zKp (zKo o) μ μ') 1 4 := by
  have hp := h.1
  obtain ⟨fse, hse, hsf⟩ := h.2.1
  obtain ⟨bs1, bs2⟩ := hB b hb
  have s60 : pcn P 9 ≤ 60 := hO.s.2
  have hLs := h.lsh
  obtain ⟨_, chLs⟩ := hLs.cell
  obtain ⟨r, f, hob, -, -⟩ := h.bk hb
  obtain ⟨t, fr, f2, hsh, htm, -, -⟩ := h.sh bs2
  rw [bs1] at hob
  have fin : ∀ x, x = tBack P b → AW G 6 MX1_giveBack (fun v μ' => v = some (.int (tBack P b)) ∧ zPR G μ' p o (tVacate (tTally P b 4) b 3 (tBack P b)) A c ∧ zKp (zKo o) μ μ') (0 + 1) (0 + 4) 69 [(0, .ref p), (1, .ref (A 4 b)), (2, .ref (A 3 (tSh P b))), (3, .int (P 3 (tSh P b) 1 - P 0 0 6))] [.int x] μ := by
    rintro x rfl
    refine aw_istore (q := 71) dX1_giveBack_69 (by decide) rfl ?_
    first | refine aw_aload_n (i := 0) (q := 72) dX1_giveBack_71 rfl rfl rfl ?_ | refine aw_aloadN_n (i := 0) (q := 72) dX1_giveBack_71 rfl rfl rfl ?_ | refine aw_aloadQ_n (i := 0) (q := 72) dX1_giveBack_71 rfl rfl rfl ?_
    first | refine aw_aload_n (i := 1) (q := 73) dX1_giveBack_72 rfl rfl rfl ?_ | refine aw_aloadN_n (i := 1) (q := 73) dX1_giveBack_72 rfl rfl rfl ?_ | refine aw_aloadQ_n (i := 1) (q := 73) dX1_giveBack_72 rfl rfl rfl ?_
    refine aw_iconst (v := 4) (q := 74) dX1_giveBack_73 rfl rfl ?_
    refine aw_callV (q := 77) dX1_giveBack_74 (C_counts (w := 4) h hO hB hb (by decide)) cv_X1_165_1 (by assumption) rfl rfl (by decide) (by decide) (by first | exact Nat.le_of_ble_eq_true rfl | simp [zcat_rf, Value.category]) rfl (fun v74 μ1 hp => ?_)
    obtain ⟨rfl, h1, k1⟩ := hp
    obtain ⟨r1, f1, hob1, -, -⟩ := h1.bk (i := b) (by rw [tTally_cn]; exact hb)
    have es : tSh (tTally P b 4) b = tSh P b := tTally_same.sh b
    have hlv := C_leaves (st := 3) (rf := tBack P b) h1 (tTally_same.ok hO) (tTally_same.bkOk hB) (b := b) (by rw [tTally_cn]; exact hb)
    rw [es] at hlv
    first | refine aw_aload_n (i := 1) (q := 78) dX1_giveBack_77 rfl rfl rfl ?_ | refine aw_aloadN_n (i := 1) (q := 78) dX1_giveBack_77 rfl rfl rfl ?_ | refine aw_aloadQ_n (i := 1) (q := 78) dX1_giveBack_77 rfl rfl rfl ?_
    first | refine aw_aload_n (i := 2) (q := 79) dX1_giveBack_78 rfl rfl rfl ?_ | refine aw_aloadN_n (i := 2) (q := 79) dX1_giveBack_78 rfl rfl rfl ?_ | refine aw_aloadQ_n (i := 2) (q := 79) dX1_giveBack_78 rfl rfl rfl ?_
    refine aw_iconst (v := 3) (q := 80) dX1_giveBack_79 rfl rfl ?_
    refine aw_iload (q := 82) dX1_giveBack_80 rfl rfl ?_
    refine aw_callV (q := 85) dX1_giveBack_82 (hlv) cv_X1_172_6 (by assumption) rfl rfl (by decide) (by decide) (by first | exact Nat.le_of_ble_eq_true rfl | simp [zcat_rf, Value.category]) rfl (fun v82 μ2 hp => ?_)
    obtain ⟨rfl, h2, k2⟩ := hp
    refine aw_iload (q := 87) dX1_giveBack_85 rfl rfl ?_
    exact aw_ireturn dX1_giveBack_87 rfl (by first | rfl | exact zB_nar _) (⟨rfl, h2, k1.tr k2⟩)
  refine meets_of (by decide +kernel) (Nat.le_of_ble_eq_true rfl) ?_
  refine AW.bud (bc' := 0 + 1) (bs' := 0 + 4) ?_ (by omega) (by omega)
  first | refine aw_aload_n (i := 0) (q := 1) dX1_giveBack_0 rfl rfl rfl ?_ | refine aw_aloadN_n (i := 0) (q := 1) dX1_giveBack_0 rfl rfl rfl ?_ | refine aw_aloadQ_n (i := 0) (q := 1) dX1_giveBack_0 rfl rfl rfl ?_
  refine aw_getfield (q := 4) dX1_giveBack_1 gf_X1_25_1 (by assumption) rfl rfl ?_
  first | refine aw_aload_n (i := 1) (q := 5) dX1_giveBack_4 rfl rfl rfl ?_ | refine aw_aloadN_n (i := 1) (q := 5) dX1_giveBack_4 rfl rfl rfl ?_ | refine aw_aloadQ_n (i := 1) (q := 5) dX1_giveBack_4 rfl rfl rfl ?_
  refine aw_getfield (q := 8) dX1_giveBack_5 gf_X1_155_6 (by assumption) rfl rfl ?_
  refine aw_callF (q := 13) dX1_giveBack_8 (C_AL_get hLs bs2 (by omega)) cf_X1_115_14 (by assumption) rfl rfl (by decide) (by decide) (by first | exact Nat.le_of_ble_eq_true rfl | simp [zcat_rf, Value.category]) rfl (zpk ?_)
  refine aw_cast (q := 16) dX1_giveBack_13 q535 hsh ca_5_X5 rfl ?_
  first | refine aw_astore_n (i := 2) (q := 17) dX1_giveBack_16 rfl (by decide) rfl ?_ | refine aw_astoreN_n (i := 2) (q := 17) dX1_giveBack_16 rfl (by decide) rfl ?_ | refine aw_astoreQ_n (i := 2) (q := 17) dX1_giveBack_16 rfl (by decide) rfl ?_
  first | refine aw_aload_n (i := 2) (q := 18) dX1_giveBack_17 rfl rfl rfl ?_ | refine aw_aloadN_n (i := 2) (q := 18) dX1_giveBack_17 rfl rfl rfl ?_ | refine aw_aloadQ_n (i := 2) (q := 18) dX1_giveBack_17 rfl rfl rfl ?_
  refine aw_getfield (q := 21) dX1_giveBack_18 gf_X1_202_5 (by assumption) rfl rfl ?_
  refine aw_getfield (q := 24) dX1_giveBack_21 gf_X1_206_8 (by assumption) rfl rfl ?_
  first | refine aw_aload_n (i := 0) (q := 25) dX1_giveBack_24 rfl rfl rfl ?_ | refine aw_aloadN_n (i := 0) (q := 25) dX1_giveBack_24 rfl rfl rfl ?_ | refine aw_aloadQ_n (i := 0) (q := 25) dX1_giveBack_24 rfl rfl rfl ?_
  refine aw_getfield (q := 28) dX1_giveBack_25 gf_X1_105_1 (by assumption) rfl rfl ?_
  refine aw_isub (q := 29) dX1_giveBack_28 rfl ?_
  refine aw_istore_n (i := 3) (q := 30) dX1_giveBack_29 rfl (by decide) rfl ?_
  try simp (config := {decide := true}) only [zput, zdel_q, zdel_f, zdel_t, zdel_nil, zdel_r, zdel_i, zdel_n]
  refine aw_iload_n (i := 3) (q := 31) dX1_giveBack_30 rfl rfl rfl ?_
  first | refine aw_aload_n (i := 0) (q := 32) dX1_giveBack_31 rfl rfl rfl ?_ | refine aw_aloadN_n (i := 0) (q := 32) dX1_giveBack_31 rfl rfl rfl ?_ | refine aw_aloadQ_n (i := 0) (q := 32) dX1_giveBack_31 rfl rfl rfl ?_
  refine aw_getfield (q := 35) dX1_giveBack_32 gf_X1_9_1 (by assumption) rfl rfl ?_
  refine aw_iconst (v := 1) (q := 36) dX1_giveBack_35 rfl rfl ?_
  refine aw_iald (q := 37) (v := P 0 0 1) (1) dX1_giveBack_36 (by assumption) (by first | assumption | (simp only [← nI_add, ← pk_mul]; rfl) | rfl) (by omega) (by omega) (hsf 1 (by decide)) rfl ?_
  refine aw_icmp_lt (tgt := 47) (q := 40) dX1_giveBack_37 (by decide) rfl (fun c1 => ?_) (fun c1 => ?_)
  · refine aw_iload_n (i := 3) (q := 48) dX1_giveBack_47 rfl rfl rfl ?_
    refine aw_if_le (tgt := 68) (q := 51) dX1_giveBack_48 (by decide) rfl (fun c2 => ?_) (fun c2 => ?_)
    · skip
      have e : (0 : Int32) = tBack P b := by
        unfold tBack
        rw [if_neg (Int32.not_le.mpr c1), if_neg (Int32.not_lt.mpr c2)]
      refine aw_iconst (v := 0) (q := 69) dX1_giveBack_68 rfl rfl ?_
      exact aw_locals (by exact ⟨rfl, rfl, rfl, rfl, trivial⟩) (fin _ e)
    · first | refine aw_aload_n (i := 1) (q := 52) dX1_giveBack_51 rfl rfl rfl ?_ | refine aw_aloadN_n (i := 1) (q := 52) dX1_giveBack_51 rfl rfl rfl ?_ | refine aw_aloadQ_n (i := 1) (q := 52) dX1_giveBack_51 rfl rfl rfl ?_
      refine aw_getfield (q := 55) dX1_giveBack_52 gf_X1_169_6 (by assumption) rfl rfl ?_
      first | refine aw_aload_n (i := 0) (q := 56) dX1_giveBack_55 rfl rfl rfl ?_ | refine aw_aloadN_n (i := 0) (q := 56) dX1_giveBack_55 rfl rfl rfl ?_ | refine aw_aloadQ_n (i := 0) (q := 56) dX1_giveBack_55 rfl rfl rfl ?_
      refine aw_getfield (q := 59) dX1_giveBack_56 gf_X1_9_1 (by assumption) rfl rfl ?_
      refine aw_iconst (v := 2) (q := 60) dX1_giveBack_59 rfl rfl ?_
      refine aw_iald (q := 61) (v := P 0 0 2) (2) dX1_giveBack_60 (by assumption) (by first | assumption | (simp only [← nI_add, ← pk_mul]; rfl) | rfl) (by omega) (by omega) (hsf 2 (by decide)) rfl ?_
      have e : P 4 b 5 * P 0 0 2 / 100 = tBack P b := by
        unfold tBack
        rw [if_neg (Int32.not_le.mpr c1), if_pos (Int32.not_le.mp c2)]
      refine aw_imul (q := 62) dX1_giveBack_61 rfl ?_
      refine aw_bipush (v := 100) (q := 64) dX1_giveBack_62 rfl rfl ?_
      refine aw_idiv (q := 65) dX1_giveBack_64 (by decide) rfl ?_
      refine aw_goto (tgt := 69) dX1_giveBack_65 (by decide) ?_
      exact aw_locals (by exact ⟨rfl, rfl, rfl, rfl, trivial⟩) (fin _ e)
  · skip
    have e : P 4 b 5 = tBack P b := by
      unfold tBack
      rw [if_pos (Int32.not_lt.mp c1)]
    first | refine aw_aload_n (i := 1) (q := 41) dX1_giveBack_40 rfl rfl rfl ?_ | refine aw_aloadN_n (i := 1) (q := 41) dX1_giveBack_40 rfl rfl rfl ?_ | refine aw_aloadQ_n (i := 1) (q := 41) dX1_giveBack_40 rfl rfl rfl ?_
    refine aw_getfield (q := 44) dX1_giveBack_41 gf_X1_169_6 (by assumption) rfl rfl ?_
    refine aw_goto (tgt := 69) dX1_giveBack_44 (by decide) ?_
    exact aw_locals (by exact ⟨rfl, rfl, rfl, rfl, trivial⟩) (fin _ e)
end ZPF

/-! THE PROGRAMME: a booking -/
set_option maxRecDepth 100000
theorem tSeatN_sum : ∀ n (f g : Nat → Int32) (left : Int32) (r : Nat), (tSeatN n f g left).1 r + (tSeatN n f g left).2 r = f r + g r
  | 0, _, _, _, _ => rfl
  | n + 1, f, g, left, r => by
    unfold tSeatN
    by_cases hl : left ≤ 0
    · rw [if_pos hl]
    · rw [if_neg hl, tSeatN_sum n]
      by_cases e : r = tRow f left
      · rw [e, pk_us, pk_us, Int32.sub_eq_add_neg, Int32.add_assoc, Int32.add_comm (g _), ← Int32.add_assoc (-_), Int32.add_left_neg, Int32.zero_add]
      · rw [pk_un e, pk_un e]
theorem tSeatN_congr2 : ∀ n (f g g' : Nat → Int32) (left : Int32), (∀ r, r < 8 → g r = g' r) → ∀ r, r < 8 → (tSeatN n f g left).2 r = (tSeatN n f g' left).2 r
  | 0, _, _, _, _, h => h
  | n + 1, f, g, g', left, h => by
    unfold tSeatN
    by_cases hl : left ≤ 0
    · rw [if_pos hl, if_pos hl]; exact h
    · rw [if_neg hl, if_neg hl]
      refine tSeatN_congr2 n _ _ _ _ (fun r hr => ?_)
      by_cases e : r = tRow f left
      · rw [e, pk_us, pk_us, h _ (e ▸ hr)]
      · rw [pk_un e, pk_un e]; exact h r hr
theorem tSeatOk.congr {f f' : Nat → Int32} {φ : Nat → Nat} {l : Nat} (h : tSeatOk f φ l) (e : ∀ r, r < 8 → f' r = f r) : tSeatOk f' φ l := ⟨fun r hr => by rw [e r hr]; exact h.1 r hr, h.2⟩
theorem ca6O : zCast 6 "java/lang/Object" := ca_6_J29
section ZPH
variable {G : zG} {μ : zM} {p o : Nat} {P : zP} {A : Nat → Nat → Nat} {c : Nat → Int32}
theorem tBookAdd_o {s i j s0 : Nat} {se sc bd : Int32} (h : ¬ (s = 4 ∧ i = pcn P 10) ∧ ¬ (s = 0 ∧ i = 0 ∧ j = 10)) : tBookAdd P s0 se sc bd s i j = P s i j := by
  unfold tBookAdd tBk0
  rw [updP_ne (by omega), tRows_o (by omega), updP_ne (by omega), updP_ne (by omega), updP_ne (by omega), updP_ne (by omega), updP_ne (by omega), updP_ne (by omega), updP_ne (by omega), updP_ne (by omega)]
theorem tBookAdd_cn {s0 : Nat} {se sc bd : Int32} (hn : pcn P 10 < 80) : pcn (tBookAdd P s0 se sc bd) 10 = pcn P 10 + 1 := by
  unfold tBookAdd pcn
  rw [updP_eq]
  exact nI_clamp (by have : pcn P 10 + 1 < 2 ^ 31 := by omega
                     exact this)
theorem tBookAdd_n {s0 j : Nat} {se sc bd : Int32} (hj : j < 8) : tBookAdd P s0 se sc bd 4 (pcn P 10) j = match j with | 0 => nI s0 | 1 => se | 2 => sc | 3 => bd | 4 => 0 | 5 => tCost P s0 se sc | _ => 0 := by
  unfold tBookAdd tBk0
  rw [updP_ne (by omega), tRows_o (by omega)]
  have hj' : j = 0 ∨ j = 1 ∨ j = 2 ∨ j = 3 ∨ j = 4 ∨ j = 5 ∨ j = 6 ∨ j = 7 := by omega
  rcases hj' with rfl | rfl | rfl | rfl | rfl | rfl | rfl | rfl
  · rw [updP_ne (by omega), updP_ne (by omega), updP_ne (by omega), updP_ne (by omega), updP_ne (by omega), updP_ne (by omega), updP_ne (by omega), updP_eq]
  · rw [updP_ne (by omega), updP_ne (by omega), updP_ne (by omega), updP_ne (by omega), updP_ne (by omega), updP_ne (by omega), updP_eq]
  · rw [updP_ne (by omega), updP_ne (by omega), updP_ne (by omega), updP_ne (by omega), updP_ne (by omega), updP_eq]
  · rw [updP_ne (by omega), updP_ne (by omega), updP_ne (by omega), updP_ne (by omega), updP_eq]
  · rw [updP_ne (by omega), updP_ne (by omega), updP_ne (by omega), updP_eq]
  · rw [updP_ne (by omega), updP_ne (by omega), updP_eq]
  · rw [updP_ne (by omega), updP_eq]
  · rw [updP_eq]
theorem tBookAdd_r {s0 j : Nat} {se sc bd : Int32} (hj : j < 8) : tBookAdd P s0 se sc bd 4 (pcn P 10) (8 + j) = (tSeat P s0 se).2 j := by
  unfold tBookAdd
  rw [updP_ne (by omega)]
  unfold tRows
  rw [if_pos ⟨rfl, rfl, by omega, by omega⟩, Nat.add_sub_cancel_left]
theorem tBookAdd_free {s0 i j : Nat} {se sc bd : Int32} (hj : j < 8) (hn : pcn P 10 < 80) : tFreeIn (tBookAdd P s0 se sc bd) (nI i) j = tFreeIn P (nI i) j - (if nI s0 = nI i then (tSeat P s0 se).2 j else 0) := by
  unfold tFreeIn
  rw [tBookAdd_cn hn]
  show tFreeInF _ _ _ _ - _ = _
  rw [tBookAdd_r hj, tBookAdd_n (j := 0) (by decide)]
  rw [tFreeInF_congr (P := P) (pcn P 10) (fun b hb => ⟨tBookAdd_o (by omega), tBookAdd_o (by omega)⟩)]
/-- what book leaves -/
def zBkP (G : zG) (μ : zM) (p o : Nat) (P : zP) (A : Nat → Nat → Nat) (c : Nat → Int32) (s : Nat) (se sc bd : Int32) : Option Value → zM → Prop := fun v μ' => v = some (.int (nI (pcn P 10))) ∧ (∃ x, zPR G μ' p o (tBookAdd P s se sc bd) (zA1 A 4 (pcn P 10) x) (upd c 4 (c 4 + 1))) ∧ zKp (zKo o) μ μ'
set_option maxHeartbeats 16000000 in
theorem C_book {s n : Nat} {sc : Int32} {pb : Prop} [hdp : Decidable pb] {φ : Nat → Nat} (h : zPR G μ p o P A c) (hO : tOk P) (hs : s < pcn P 9) (hKi : tKi P) (hsc : sc = -6 ∨ 0 ≤ sc) (hok : tSeatOk (tFreeIn P (nI s)) φ n) (hn : pcn P 10 < 80) : Meets G 9 MX1_book [.ref p, .int (nI s), .int (nI n), .int sc, .int (zB pb)] μ (zBkP G μ p o P A c s (nI n) sc (zB pb)) 3 (2 * pcn P 10 + 26) := by
  have hp := h.1
  obtain ⟨fse, hse, hsf⟩ := h.2.1
  obtain ⟨ki1, ki2⟩ := hKi s hs
  have s60 : pcn P 9 ≤ 60 := hO.s.2
  have k10 : pcn P 7 ≤ 10 := hO.k.2
  have hLs := h.lsh
  obtain ⟨_, chLs⟩ := hLs.cell
  have hLk := h.lki
  obtain ⟨_, chLk⟩ := hLk.cell
  have hLb := h.lbk
  obtain ⟨_, chLb⟩ := hLb.cell
  have hki := h.ki ki2
  obtain ⟨t, fr, f2, hsh, htm, hfr, hf2⟩ := h.sh hs
  rw [ki1] at hsh
  have hoz : obT 4 (pcn P 10) o ≠ zC := obT_nz
  have haz : oaT 4 (pcn P 10) o ≠ zC := oaT_nz
  have hsz : oaT 3 s o ≠ zC := oaT_nz
  have hlz : lsT 4 o ≠ zC := fun e => by have e1 : 20010 + 2 * 4 = 0 := congrArg Prod.fst e; omega
  have hraz : laT 4 o ≠ zC := fun e => by have e1 : 20011 + 2 * 4 = 0 := congrArg Prod.fst e; omega
  have hll : lsT 4 o ≠ laT 4 o := fun e => by have e1 : 20010 + 2 * 4 = 20011 + 2 * 4 := congrArg Prod.fst e; omega
  have fin : ∀ x : Int32, nI n * x = tCost P s (nI n) sc → AW G 9 MX1_book (zBkP G μ p o P A c s (nI n) sc (zB pb)) (((0 + 1) + 1) + 1) (((0 + (2 * pcn P 10 + 10)) + 8) + 8) 60 [(0, .ref p), (1, .int (nI s)), (2, .int (nI n)), (3, .int sc), (4, .int (zB pb)), (5, .ref (A 3 s)), (6, .int (P 1 (tKd P s) 2))] [.int x] μ := by
    intro x hx
    refine aw_istore (q := 62) dX1_book_60 (by decide) rfl ?_
    first | refine aw_new (q := 65) dX1_book_62 nw_X1_85 (obT 4 (pcn P 10) o) (by first | assumption | simp) rfl (fun b μ1 hn_b hg_μ1 => ?_) | (refine AW.sub (bc' := 1) (bs' := 8) (by omega) (by omega) ?_; refine aw_new (q := 65) dX1_book_62 nw_X1_85 (obT 4 (pcn P 10) o) (by first | assumption | simp) rfl (fun b μ1 hn_b hg_μ1 => ?_))
    have h_b : μ1 b = some _ := hg_μ1 ▸ updM_eq _ _ _
    have hk1 : zKp (fun _ u => u = oaT 3 s o) μ μ1 := hg_μ1 ▸ zKp.new hn_b
    refine aw_dup (q := 66) dX1_book_65 (by first | rfl | exact zcat_rf _) rfl ?_
    refine aw_iload_n (i := 1) (q := 67) dX1_book_66 rfl rfl rfl ?_
    refine aw_iload_n (i := 2) (q := 68) dX1_book_67 rfl rfl rfl ?_
    refine aw_iload_n (i := 3) (q := 69) dX1_book_68 rfl rfl rfl ?_
    refine aw_iload (q := 71) dX1_book_69 rfl rfl ?_
    refine aw_iload_n (i := 2) (q := 72) dX1_book_71 rfl rfl rfl ?_
    refine aw_iload (q := 74) dX1_book_72 rfl rfl ?_
    refine aw_imul (q := 75) dX1_book_74 rfl ?_
    rw [hx]
    refine aw_callI (q := 78) dX1_book_75 (C_Bk_init2 (uf := oaT 4 (pcn P 10) o) h_b hoz haz) ci_X1_192 rfl rfl (by decide) (by decide) (by first | exact Nat.le_of_ble_eq_true rfl | simp [zcat_rf, Value.category]) rfl (fun v75 μ2 hp => ?_)
    obtain ⟨rfl, r, f', q1, q2, q3, q4, q5, q6⟩ := hp
    have hk2 : zKp (fun _ u => u = oaT 3 s o) μ μ2 := fun a t e ha hna => q6 a t e (hk1 a t e ha hna) (fun z => by rw [z, hn_b] at ha; cases ha)
    have hrn : μ r = none := by
      cases hz : μ r with
      | none => rfl
      | some v => exact absurd ((hg_μ1 ▸ (updM_ne q1).trans hz : μ1 r = some v).symm.trans q2) (by simp)
    have hsh2 : μ2 (A 3 s) = _ := hk2 _ _ _ hsh (fun z => by have e1 : 30000 + 1000 * 3 + 2 * s = 30001 + 1000 * 3 + 2 * s := congrArg Prod.fst z; omega)
    have hfr2 : μ2 fr = some (oaT 3 s o, aI G 8 f2) := by
      refine q6 _ _ _ (hg_μ1 ▸ (updM_ne (zneN hfr hn_b)).trans hfr) (zneN hfr hn_b)
    have hne : oaT 3 s o ≠ oaT 4 (pcn P 10) o := fun e => by
      have e1 : 30001 + 1000 * 3 + 2 * s = 30001 + 1000 * 4 + 2 * pcn P 10 := congrArg Prod.fst e
      omega
    first | refine aw_astore (q := 80) dX1_book_78 (by decide) rfl ?_ | refine aw_astoreN (q := 80) dX1_book_78 (by decide) rfl ?_ | refine aw_astoreQ (q := 80) dX1_book_78 (by decide) rfl ?_
    first | refine aw_aload (q := 82) dX1_book_80 rfl rfl ?_ | refine aw_aloadN (q := 82) dX1_book_80 rfl rfl ?_ | refine aw_aloadQ (q := 82) dX1_book_80 rfl rfl ?_
    first | refine aw_aload (q := 84) dX1_book_82 rfl rfl ?_ | refine aw_aloadN (q := 84) dX1_book_82 rfl rfl ?_ | refine aw_aloadQ (q := 84) dX1_book_82 rfl rfl ?_
    refine aw_getfield (q := 87) dX1_book_84 gf_X1_195_6 (by assumption) rfl rfl ?_
    refine aw_iload_n (i := 2) (q := 88) dX1_book_87 rfl rfl rfl ?_
    refine aw_callV (q := 91) dX1_book_88 (C_Show_seat (φ := φ) hsh2 hfr2 q4 hsz haz hne (hok.congr hf2)) cv_X1_198_5 (by assumption) rfl rfl (by decide) (by decide) (by first | exact Nat.le_of_ble_eq_true rfl | simp [zcat_rf, Value.category]) rfl (fun v88 μ3 hp => ?_)
    obtain ⟨rfl, w1, w2, w3⟩ := hp
    have hk3 : zKp (fun _ u => u = oaT 3 s o) μ μ3 := fun a t e ha hna => w3 a t e (hk2 a t e ha hna) (fun z => by
      rcases z with z | z
      · rw [z, hfr] at ha; cases ha; exact hna rfl
      · rw [z, hrn] at ha; cases ha)
    have hb3 := w3 _ _ _ q3 (fun z => by
      rcases z with z | z
      · rw [z, hfr2] at q3; cases q3
      · exact q1 z.symm)
    have lo3 : ∀ m, m < 30000 → (m, o) ≠ oaT 3 s o := fun m hm e => by have e1 : m = 30001 + 1000 * 3 + 2 * s := congrArg Prod.fst e; omega
    have hp3 := hk3 _ _ _ hp (lo3 _ (by omega))
    have hL3 := hLb.kp hk3 (fun _ => lo3 _ (by omega)) (fun _ => lo3 _ (by omega))
    obtain ⟨_, chL3⟩ := hL3.cell
    have hel : ∀ i, i < pcn P 10 → zOb μ3 (A 4 i) := fun i hi => by
      obtain ⟨ri, fi, hi1, -, -⟩ := h.bk hi
      exact ⟨_, _, _, hk3 _ _ _ hi1 (fun e => by have e1 : 30000 + 1000 * 4 + 2 * i = 30001 + 1000 * 3 + 2 * s := congrArg Prod.fst e; omega), ca6O⟩
    first | refine aw_aload_n (i := 0) (q := 92) dX1_book_91 rfl rfl rfl ?_ | refine aw_aloadN_n (i := 0) (q := 92) dX1_book_91 rfl rfl rfl ?_ | refine aw_aloadQ_n (i := 0) (q := 92) dX1_book_91 rfl rfl rfl ?_
    refine aw_getfield (q := 95) dX1_book_92 gf_X1_28_1 (by assumption) rfl rfl ?_
    first | refine aw_aload (q := 97) dX1_book_95 rfl rfl ?_ | refine aw_aloadN (q := 97) dX1_book_95 rfl rfl ?_ | refine aw_aloadQ (q := 97) dX1_book_95 rfl rfl ?_
    refine aw_callF (q := 102) dX1_book_97 (C_AL_add hL3 ⟨_, _, _, hb3, ca6O⟩ hlz hraz hll (by omega) hel) cf_X1_71_14 (by assumption) rfl rfl (by decide) (by decide) (by first | exact Nat.le_of_ble_eq_true rfl | simp [zcat_rf, Value.category]) rfl (fun v97 μ4 hp => ?_)
    obtain ⟨rfl, hL4, k4⟩ := hp
    obtain ⟨_, chL4⟩ := hL4.cell
    have nl : ∀ (a : Nat) (m : Nat), 30000 ≤ m → ¬ zTg (lsT 4 o) (laT 4 o) a (m, o) := fun a m hm q => by
      rcases q with q | q
      · have e1 : m = 20010 + 2 * 4 := congrArg Prod.fst q
        omega
      · have e1 : m = 20011 + 2 * 4 := congrArg Prod.fst q
        omega
    have hp4 := k4 _ _ _ hp3 (fun q => by
      rcases q with q | q
      · have e1 : 20000 + 0 = 20010 + 2 * 4 := congrArg Prod.fst q
        omega
      · have e1 : 20000 + 0 = 20011 + 2 * 4 := congrArg Prod.fst q
        omega)
    have hsh3 : μ3 (A 3 s) = _ := w3 _ _ _ hsh2 (fun z => by
      rcases z with z | z
      · rw [z, hfr2] at hsh2; cases hsh2
      · rw [z, q4] at hsh2; cases hsh2)
    have hk4 : zKp (fun _ u => (u = lsT 4 o ∨ u = laT 4 o) ∨ u = oaT 3 s o) μ μ4 := (hk3.mono (fun _ _ q => Or.inr q)).tr (k4.mono (fun _ _ q => Or.inl q))
    have hdone : zPR G μ4 p o (tBookAdd P s (nI n) sc (zB pb)) (zA1 A 4 (pcn P 10) b) (upd c 4 (c 4 + 1)) := by
      refine h.add (s0 := 4) (B := fun s' i => s' = 3 ∧ i = s) hO (Or.inr (Or.inr (Or.inr (Or.inl rfl)))) hk4 ?_ (fun j hj => tBookAdd_o (by omega)) (tBookAdd_cn hn) hL4 ?_ ?_ ?_
      · rintro a u (q | q)
        · exact Or.inl q
        · exact Or.inr ⟨3, s, Or.inr (Or.inr (Or.inl rfl)), by omega, ⟨rfl, rfl⟩, Or.inr q⟩
      · refine ⟨r, _, ?_, k4 _ _ _ w2 (nl _ _ (by omega)), fun j hj => ?_⟩
        · show μ4 b = some (obT 4 (pcn P 10) o, oBk (tBookAdd P s (nI n) sc (zB pb) 4 (pcn P 10) 0) (tBookAdd P s (nI n) sc (zB pb) 4 (pcn P 10) 1) (tBookAdd P s (nI n) sc (zB pb) 4 (pcn P 10) 2) (tBookAdd P s (nI n) sc (zB pb) 4 (pcn P 10) 3) (tBookAdd P s (nI n) sc (zB pb) 4 (pcn P 10) 5) (tBookAdd P s (nI n) sc (zB pb) 4 (pcn P 10) 4) (tBookAdd P s (nI n) sc (zB pb) 4 (pcn P 10) 6) r)
          rw [tBookAdd_n (by decide), tBookAdd_n (by decide), tBookAdd_n (by decide), tBookAdd_n (by decide), tBookAdd_n (by decide), tBookAdd_n (by decide), tBookAdd_n (by decide)]
          exact k4 _ _ _ hb3 (nl _ _ (by omega))
        · show _ = tBookAdd P s (nI n) sc (zB pb) 4 (pcn P 10) (8 + j)
          rw [tBookAdd_r hj, tSeatN_congr2 41 f2 f' (fun _ => 0) _ q5 j hj]
          exact congrFun (tSeatN_congr 41 f2 (tFreeIn P (nI s)) (fun _ => 0) (nI n) hf2).1 j
      · rintro s' i - hi ⟨rfl, rfl⟩
        refine ⟨t, fr, _, ?_, ?_, k4 _ _ _ w1 (nl _ _ (by omega)), fun j hj => ?_⟩
        · rw [tBookAdd_o (by omega), tBookAdd_o (by omega), tBookAdd_o (by omega), tBookAdd_o (by omega), tBookAdd_o (by omega), ki1]
          exact k4 _ _ _ hsh3 (nl _ _ (by omega))
        · rw [tBookAdd_o (by omega), tBookAdd_o (by omega)]
          refine hk4 _ _ _ htm ?_
          rintro ((q | q) | q)
          · have e1 : 0 = 20010 + 2 * 4 := congrArg Prod.fst q
            omega
          · have e1 : 0 = 20011 + 2 * 4 := congrArg Prod.fst q
            omega
          · have e1 : 0 = 30001 + 1000 * 3 + 2 * i := congrArg Prod.fst q
            omega
        · rw [tBookAdd_free hj hn, if_pos rfl]
          have e1 := tSeatN_sum 41 f2 f' (nI n) j
          have e2 := tSeatN_congr2 41 f2 f' (fun _ => 0) (nI n) q5 j hj
          have e3 : (tSeatN 41 f2 (fun _ => 0) (nI n)).2 j = (tSeat P i (nI n)).2 j := congrFun (tSeatN_congr 41 f2 (tFreeIn P (nI i)) (fun _ => 0) (nI n) hf2).1 j
          rw [q5 j hj, Int32.add_zero, hf2 j hj, e2, e3] at e1
          rw [← e1, Int32.add_sub_cancel]
      · intro s' i hs' hi hB
        refine ⟨fun j hj => tBookAdd_o (by omega), fun e3 j hj => ?_⟩
        subst e3
        rw [tBookAdd_free hj hn, if_neg (fun q => hB ⟨rfl, ((nI_eq (by omega) (by omega)).mp q).symm⟩), Int32.sub_zero]
    refine aw_pop (q := 103) dX1_book_102 (by first | rfl | exact zcat_rf _) rfl ?_
    first | refine aw_aload_n (i := 0) (q := 104) dX1_book_103 rfl rfl rfl ?_ | refine aw_aloadN_n (i := 0) (q := 104) dX1_book_103 rfl rfl rfl ?_ | refine aw_aloadQ_n (i := 0) (q := 104) dX1_book_103 rfl rfl rfl ?_
    refine aw_getfield (q := 107) dX1_book_104 gf_X1_28_1 (by assumption) rfl rfl ?_
    refine aw_callF (q := 112) dX1_book_107 (C_AL_size hL4) cf_X1_111_14 (by assumption) rfl rfl (by decide) (by decide) (by first | exact Nat.le_of_ble_eq_true rfl | simp [zcat_rf, Value.category]) rfl (zpk ?_)
    refine aw_iconst (v := 1) (q := 113) dX1_book_112 rfl rfl ?_
    refine aw_isub (q := 114) dX1_book_113 rfl ?_
    exact aw_ireturn dX1_book_114 rfl (by first | rfl | exact zB_nar _) (⟨by rw [nI_pred], ⟨b, hdone⟩, hk4.mono (fun a u q => by)
      rcases q with (q | q) | q
      · subst q; exact ⟨rfl, by show 20000 ≤ 20010 + 2 * 4; omega⟩
      · subst q; exact ⟨rfl, by show 20000 ≤ 20011 + 2 * 4; omega⟩
      · subst q; exact zKo.oa)⟩
  refine meets_of (by decide +kernel) (Nat.le_of_ble_eq_true rfl) ?_
  refine AW.bud (bc' := ((0 + 1) + 1) + 1) (bs' := ((0 + (2 * pcn P 10 + 10)) + 8) + 8) ?_ (by omega) (by omega)
  first | refine aw_aload_n (i := 0) (q := 1) dX1_book_0 rfl rfl rfl ?_ | refine aw_aloadN_n (i := 0) (q := 1) dX1_book_0 rfl rfl rfl ?_ | refine aw_aloadQ_n (i := 0) (q := 1) dX1_book_0 rfl rfl rfl ?_
  refine aw_getfield (q := 4) dX1_book_1 gf_X1_25_1 (by assumption) rfl rfl ?_
  refine aw_iload_n (i := 1) (q := 5) dX1_book_4 rfl rfl rfl ?_
  refine aw_callF (q := 10) dX1_book_5 (C_AL_get hLs hs (by omega)) cf_X1_115_14 (by assumption) rfl rfl (by decide) (by decide) (by first | exact Nat.le_of_ble_eq_true rfl | simp [zcat_rf, Value.category]) rfl (zpk ?_)
  refine aw_cast (q := 13) dX1_book_10 q535 hsh ca_5_X5 rfl ?_
  first | refine aw_astore (q := 15) dX1_book_13 (by decide) rfl ?_ | refine aw_astoreN (q := 15) dX1_book_13 (by decide) rfl ?_ | refine aw_astoreQ (q := 15) dX1_book_13 (by decide) rfl ?_
  first | refine aw_aload_n (i := 0) (q := 16) dX1_book_15 rfl rfl rfl ?_ | refine aw_aloadN_n (i := 0) (q := 16) dX1_book_15 rfl rfl rfl ?_ | refine aw_aloadQ_n (i := 0) (q := 16) dX1_book_15 rfl rfl rfl ?_
  refine aw_getfield (q := 19) dX1_book_16 gf_X1_18_1 (by assumption) rfl rfl ?_
  first | refine aw_aload (q := 21) dX1_book_19 rfl rfl ?_ | refine aw_aloadN (q := 21) dX1_book_19 rfl rfl ?_ | refine aw_aloadQ (q := 21) dX1_book_19 rfl rfl ?_
  refine aw_getfield (q := 24) dX1_book_21 gf_X1_186_5 (by assumption) rfl rfl ?_
  refine aw_callF (q := 29) dX1_book_24 (C_AL_get hLk ki2 (by omega)) cf_X1_115_14 (by assumption) rfl rfl (by decide) (by decide) (by first | exact Nat.le_of_ble_eq_true rfl | simp [zcat_rf, Value.category]) rfl (zpk ?_)
  refine aw_cast (q := 32) dX1_book_29 q415 hki ca_3_X3 rfl ?_
  refine aw_getfield (q := 35) dX1_book_32 gf_X1_189_3 (by assumption) rfl rfl ?_
  refine aw_istore (q := 37) dX1_book_35 (by decide) rfl ?_
  try simp (config := {decide := true}) only [zput, zdel_q, zdel_f, zdel_t, zdel_nil, zdel_r, zdel_i, zdel_n]
  refine aw_iload_n (i := 3) (q := 38) dX1_book_37 rfl rfl rfl ?_
  refine aw_bipush (v := (-6)) (q := 40) dX1_book_38 rfl rfl ?_
  refine aw_icmp_ne (tgt := 48) (q := 43) dX1_book_40 (by decide) rfl (fun c1 => ?_) (fun c1 => ?_)
  · refine aw_iload (q := 50) dX1_book_48 rfl rfl ?_
    first | refine aw_aload_n (i := 0) (q := 51) dX1_book_50 rfl rfl rfl ?_ | refine aw_aloadN_n (i := 0) (q := 51) dX1_book_50 rfl rfl rfl ?_ | refine aw_aloadQ_n (i := 0) (q := 51) dX1_book_50 rfl rfl rfl ?_
    refine aw_getfield (q := 54) dX1_book_51 gf_X1_9_1 (by assumption) rfl rfl ?_
    refine aw_iconst (v := 4) (q := 55) dX1_book_54 rfl rfl ?_
    refine aw_iald (q := 56) (v := P 0 0 4) (4) dX1_book_55 (by assumption) (by first | assumption | (simp only [← nI_add, ← pk_mul]; rfl) | rfl) (by omega) (by omega) (hsf 4 (by decide)) rfl ?_
    refine aw_imul (q := 57) dX1_book_56 rfl ?_
    refine aw_bipush (v := 100) (q := 59) dX1_book_57 rfl rfl ?_
    refine aw_idiv (q := 60) dX1_book_59 (by decide) rfl ?_
    exact aw_locals (by exact ⟨rfl, rfl, rfl, rfl, rfl, rfl, rfl, trivial⟩) (fin _ (by unfold tCost; rw [if_pos (hsc.resolve_left c1)]))
  · skip
    refine aw_iload (q := 45) dX1_book_43 rfl rfl ?_
    refine aw_goto (tgt := 60) dX1_book_45 (by decide) ?_
    exact aw_locals (by exact ⟨rfl, rfl, rfl, rfl, rfl, rfl, rfl, trivial⟩) (fin _ (by unfold tCost; rw [if_neg (by rw [c1]; decide)]))
end ZPH

/-! THE PROGRAMME: the lamp by which a show can begin -/
set_option maxRecDepth 100000
section ZPI
variable {G : zG} {μ : zM} {p o : Nat} {P : zP} {A : Nat → Nat → Nat} {c : Nat → Int32}
/-- what lampFor leaves -/
def zLfP (G : zG) (μ : zM) (p o : Nat) (P : zP) (A : Nat → Nat → Nat) (c : Nat → Int32) (least : Int32) : Option Value → zM → Prop := fun v μ' => zPR G μ' p o (tLight P least) A c ∧ tOneF (tLight P least) ∧ zKp (zKo o) μ μ' ∧ ((tHasD P least = false ∧ v = some (.ref (G.2.2.2 1)) ∧ μ' (G.2.2.2 1) = some (zC, .inr (18, [.null]))) ∨ (tHasD P least = true ∧ ∃ a l, l < pcn P 8 ∧ tFit (tLight P least) = nI l ∧ v = some (.ref a) ∧ μ' a = some (zTI, .inr (18, [.ref (A 2 l)]))))
theorem tPutIn_ok {l : Nat} (hO : tOk P) : tOk (tPutIn P l) := by
  unfold tPutIn
  refine tOk.upd ?_ (Or.inl (by decide))
  split
  · exact hO
  · exact hO.upd (Or.inl (by decide))
set_option maxHeartbeats 16000000 in
theorem C_lampFor {k : Nat} (h : zPR G μ p o P A c) (hO : tOk P) (h1 : tOneF P) (hf : tLife P) (hk : k < pcn P 7) (hl0 : 0 < P 1 k 1) : Meets G 7 MX1_lampFor [.ref p, .ref (A 1 k)] μ (zLfP G μ p o P A c (P 1 k 1)) 1 1 := by
  have hp := h.1
  have hki := h.ki hk
  obtain ⟨fse, hse, hsf⟩ := h.2.1
  have l12 : pcn P 8 ≤ 12 := hO.l.2
  -- 50: there is a lamp
  have s50 : ∀ (μ1 : zM) (l : Nat), zPR G μ1 p o (tLight P (P 1 k 1)) A c → tOneF (tLight P (P 1 k 1)) → tOk (tLight P (P 1 k 1)) → zKp (zKo o) μ μ1 → tHasD P (P 1 k 1) = true → l < pcn P 8 → tFit (tLight P (P 1 k 1)) = nI l → ∀ L', AW G 7 MX1_lampFor (zLfP G μ p o P A c (P 1 k 1)) (0 + 1) (0 + 1) 50 ((0, .ref p) :: (1, .ref (A 1 k)) :: L') [] μ1 := by
    intro μ1 l g1 g2 g3 g4 g5 g6 g7 L'
    refine aw_locals (L' := [(0, .ref p), (1, .ref (A 1 k))]) (by exact ⟨rfl, rfl, trivial⟩) ?_
    have hp1 := g1.1
    have hL1 := g1.lla
    obtain ⟨_, chL1⟩ := hL1.cell
    rw [tLight_cn] at hL1
    have hfx := C_fitted g1 g3 g2
    rw [g7] at hfx
    have hla1 := g1.la (i := l) (by rw [tLight_cn]; exact g6)
    first | refine aw_aload_n (i := 0) (q := 51) dX1_lampFor_50 rfl rfl rfl ?_ | refine aw_aloadN_n (i := 0) (q := 51) dX1_lampFor_50 rfl rfl rfl ?_ | refine aw_aloadQ_n (i := 0) (q := 51) dX1_lampFor_50 rfl rfl rfl ?_
    refine aw_getfield (q := 54) dX1_lampFor_51 gf_X1_22_1 (by assumption) rfl rfl ?_
    first | refine aw_aload_n (i := 0) (q := 55) dX1_lampFor_54 rfl rfl rfl ?_ | refine aw_aloadN_n (i := 0) (q := 55) dX1_lampFor_54 rfl rfl rfl ?_ | refine aw_aloadQ_n (i := 0) (q := 55) dX1_lampFor_54 rfl rfl rfl ?_
    refine aw_callV (q := 58) dX1_lampFor_55 (hfx) cv_X1_122_1 (by assumption) rfl rfl (by decide) (by decide) (by first | exact Nat.le_of_ble_eq_true rfl | simp [zcat_rf, Value.category]) rfl (zpk ?_)
    refine aw_callF (q := 63) dX1_lampFor_58 (C_AL_get hL1 g6 (by omega)) cf_X1_115_14 (by assumption) rfl rfl (by decide) (by decide) (by first | exact Nat.le_of_ble_eq_true rfl | simp [zcat_rf, Value.category]) rfl (zpk ?_)
    refine aw_cast (q := 66) dX1_lampFor_63 q512 hla1 ca_4_X4 rfl ?_
    refine aw_callS (q := 69) dX1_lampFor_66 (C_Opt_of (u := zTI) zTI_nz) cs_X1_148 rfl rfl (by decide) (by decide) (by first | exact Nat.le_of_ble_eq_true rfl | simp [zcat_rf, Value.category]) rfl (fun v66 μ2 hp => ?_)
    obtain ⟨a, rfl, an, hg2⟩ := hp
    exact aw_areturnR dX1_lampFor_69 rfl (by first | exact Or.inl ⟨_, rfl⟩ | exact Or.inr ⟨_, rfl⟩) (⟨zF.pr g1 (hg2 ▸ zKp.new an), g2, g4.tr (hg2 ▸ zKp.new an), Or.inr ⟨g5, a, l, g6, g7, rfl, hg2 ▸ updM_eq _ _ _⟩⟩)
  -- 41: none
  have s41 : ∀ L', tHasD P (P 1 k 1) = false → tLight P (P 1 k 1) = P → AW G 7 MX1_lampFor (zLfP G μ p o P A c (P 1 k 1)) (0 + 1) (0 + 1) 41 ((0, .ref p) :: (1, .ref (A 1 k)) :: L') [] μ := by
    intro L' g1 g2
    refine aw_locals (L' := [(0, .ref p), (1, .ref (A 1 k))]) (by exact ⟨rfl, rfl, trivial⟩) ?_
    refine aw_callS (q := 44) dX1_lampFor_41 (C_Opt_empty) cs_X1_138 rfl rfl (by decide) (by decide) (by first | exact Nat.le_of_ble_eq_true rfl | simp [zcat_rf, Value.category]) rfl (fun v41 μ1 hp => ?_)
    obtain ⟨rfl, rfl, hem⟩ := hp
    exact aw_areturnR dX1_lampFor_44 rfl (by first | exact Or.inl ⟨_, rfl⟩ | exact Or.inr ⟨_, rfl⟩) (⟨by rw [g2]; exact h, by rw [g2]; exact h1, zKp.rf, Or.inl ⟨g1, rfl, hem⟩⟩)
  -- 15: no light yet
  have s15 : tLitD P (P 1 k 1) = false → AW G 7 MX1_lampFor (zLfP G μ p o P A c (P 1 k 1)) (0 + 1) (0 + 1) 15 [(0, .ref p), (1, .ref (A 1 k))] [] μ := by
    intro hlit
    have hnl : ¬ (tLitD P (P 1 k 1) = true) := by rw [hlit]; decide
    have hbs := C_brightestSpare h hO hf
    rcases zSpN_best (P := P) hl0 (pcn P 8) with ⟨e1, e2⟩ | ⟨j, e1, e2⟩
    · have hno : tHasD P (P 1 k 1) = false := by unfold tHasD tBest; rw [hlit, e2]; simp
      have hlg : tLight P (P 1 k 1) = P := by
        unfold tLight tBest
        rw [if_neg hnl, e2]
        split <;> rfl
      rw [e1] at hbs
      first | refine aw_aload_n (i := 0) (q := 16) dX1_lampFor_15 rfl rfl rfl ?_ | refine aw_aloadN_n (i := 0) (q := 16) dX1_lampFor_15 rfl rfl rfl ?_ | refine aw_aloadQ_n (i := 0) (q := 16) dX1_lampFor_15 rfl rfl rfl ?_
      refine aw_callV (q := 19) dX1_lampFor_16 (hbs) cv_X1_135_1 (by assumption) rfl rfl (by decide) (by decide) (by first | exact Nat.le_of_ble_eq_true rfl | simp [zcat_rf, Value.category]) rfl (zpk ?_)
      refine aw_istore_n (i := 2) (q := 20) dX1_lampFor_19 rfl (by decide) rfl ?_
      first | refine aw_aload_n (i := 0) (q := 21) dX1_lampFor_20 rfl rfl rfl ?_ | refine aw_aloadN_n (i := 0) (q := 21) dX1_lampFor_20 rfl rfl rfl ?_ | refine aw_aloadQ_n (i := 0) (q := 21) dX1_lampFor_20 rfl rfl rfl ?_
      refine aw_getfield (q := 24) dX1_lampFor_21 gf_X1_9_1 (by assumption) rfl rfl ?_
      refine aw_iconst (v := 5) (q := 25) dX1_lampFor_24 rfl rfl ?_
      refine aw_iald (q := 26) (v := P 0 0 5) (5) dX1_lampFor_25 (by assumption) (by first | assumption | (simp only [← nI_add, ← pk_mul]; rfl) | rfl) (by omega) (by omega) (hsf 5 (by decide)) rfl ?_
      refine aw_if_eq (tgt := 41) (q := 29) dX1_lampFor_26 (by decide) rfl (fun c1 => ?_) (fun c1 => ?_)
      · skip
        exact s41 _ hno hlg
      · first | refine aw_aload_n (i := 0) (q := 30) dX1_lampFor_29 rfl rfl rfl ?_ | refine aw_aloadN_n (i := 0) (q := 30) dX1_lampFor_29 rfl rfl rfl ?_ | refine aw_aloadQ_n (i := 0) (q := 30) dX1_lampFor_29 rfl rfl rfl ?_
        refine aw_iload_n (i := 2) (q := 31) dX1_lampFor_30 rfl rfl rfl ?_
        first | refine aw_aload_n (i := 1) (q := 32) dX1_lampFor_31 rfl rfl rfl ?_ | refine aw_aloadN_n (i := 1) (q := 32) dX1_lampFor_31 rfl rfl rfl ?_ | refine aw_aloadQ_n (i := 1) (q := 32) dX1_lampFor_31 rfl rfl rfl ?_
        refine aw_getfield (q := 35) dX1_lampFor_32 gf_X1_128_3 (by assumption) rfl rfl ?_
        refine aw_callV (q := 38) dX1_lampFor_35 (C_hasLightN h) cv_X1_131_1 (by assumption) rfl rfl (by decide) (by decide) (by first | exact Nat.le_of_ble_eq_true rfl | simp [zcat_rf, Value.category]) rfl (zpk ?_)
        refine aw_if_ne (tgt := 45) (q := 41) dX1_lampFor_38 (by decide) rfl (fun hZ => absurd ((fun q => q rfl)) hZ) (fun _ => ?_)
        exact s41 _ hno hlg
    · obtain ⟨hj, -⟩ := zSpN_lt _ j e1
      rw [e1] at hbs
      by_cases c0 : P 0 0 5 = 0
      · have hno : tHasD P (P 1 k 1) = false := by unfold tHasD; rw [hlit, c0]; simp
        have hlg : tLight P (P 1 k 1) = P := by
          unfold tLight
          rw [if_neg hnl, if_pos c0]
        first | refine aw_aload_n (i := 0) (q := 16) dX1_lampFor_15 rfl rfl rfl ?_ | refine aw_aloadN_n (i := 0) (q := 16) dX1_lampFor_15 rfl rfl rfl ?_ | refine aw_aloadQ_n (i := 0) (q := 16) dX1_lampFor_15 rfl rfl rfl ?_
        refine aw_callV (q := 19) dX1_lampFor_16 (hbs) cv_X1_135_1 (by assumption) rfl rfl (by decide) (by decide) (by first | exact Nat.le_of_ble_eq_true rfl | simp [zcat_rf, Value.category]) rfl (zpk ?_)
        refine aw_istore_n (i := 2) (q := 20) dX1_lampFor_19 rfl (by decide) rfl ?_
        first | refine aw_aload_n (i := 0) (q := 21) dX1_lampFor_20 rfl rfl rfl ?_ | refine aw_aloadN_n (i := 0) (q := 21) dX1_lampFor_20 rfl rfl rfl ?_ | refine aw_aloadQ_n (i := 0) (q := 21) dX1_lampFor_20 rfl rfl rfl ?_
        refine aw_getfield (q := 24) dX1_lampFor_21 gf_X1_9_1 (by assumption) rfl rfl ?_
        refine aw_iconst (v := 5) (q := 25) dX1_lampFor_24 rfl rfl ?_
        refine aw_iald (q := 26) (v := P 0 0 5) (5) dX1_lampFor_25 (by assumption) (by first | assumption | (simp only [← nI_add, ← pk_mul]; rfl) | rfl) (by omega) (by omega) (hsf 5 (by decide)) rfl ?_
        refine aw_if_eq (tgt := 41) (q := 29) dX1_lampFor_26 (by decide) rfl (fun _ => ?_) (fun hZ => absurd (c0) hZ)
        exact s41 _ hno hlg
      · rcases e2 with ⟨e2, e3⟩ | ⟨e2, e3⟩
        · have hyes : tHasD P (P 1 k 1) = true := by unfold tHasD tBest; rw [e3]; simp [c0]
          have hlg : tLight P (P 1 k 1) = tPutIn P j := by
            unfold tLight tBest
            rw [if_neg hnl, if_neg c0, e3]
          first | refine aw_aload_n (i := 0) (q := 16) dX1_lampFor_15 rfl rfl rfl ?_ | refine aw_aloadN_n (i := 0) (q := 16) dX1_lampFor_15 rfl rfl rfl ?_ | refine aw_aloadQ_n (i := 0) (q := 16) dX1_lampFor_15 rfl rfl rfl ?_
          refine aw_callV (q := 19) dX1_lampFor_16 (hbs) cv_X1_135_1 (by assumption) rfl rfl (by decide) (by decide) (by first | exact Nat.le_of_ble_eq_true rfl | simp [zcat_rf, Value.category]) rfl (zpk ?_)
          refine aw_istore_n (i := 2) (q := 20) dX1_lampFor_19 rfl (by decide) rfl ?_
          first | refine aw_aload_n (i := 0) (q := 21) dX1_lampFor_20 rfl rfl rfl ?_ | refine aw_aloadN_n (i := 0) (q := 21) dX1_lampFor_20 rfl rfl rfl ?_ | refine aw_aloadQ_n (i := 0) (q := 21) dX1_lampFor_20 rfl rfl rfl ?_
          refine aw_getfield (q := 24) dX1_lampFor_21 gf_X1_9_1 (by assumption) rfl rfl ?_
          refine aw_iconst (v := 5) (q := 25) dX1_lampFor_24 rfl rfl ?_
          refine aw_iald (q := 26) (v := P 0 0 5) (5) dX1_lampFor_25 (by assumption) (by first | assumption | (simp only [← nI_add, ← pk_mul]; rfl) | rfl) (by omega) (by omega) (hsf 5 (by decide)) rfl ?_
          refine aw_if_eq (tgt := 41) (q := 29) dX1_lampFor_26 (by decide) rfl (fun hZ => absurd hZ (c0)) (fun _ => ?_)
          rw [show zNo (some j) = nI j from rfl]
          first | refine aw_aload_n (i := 0) (q := 30) dX1_lampFor_29 rfl rfl rfl ?_ | refine aw_aloadN_n (i := 0) (q := 30) dX1_lampFor_29 rfl rfl rfl ?_ | refine aw_aloadQ_n (i := 0) (q := 30) dX1_lampFor_29 rfl rfl rfl ?_
          refine aw_iload_n (i := 2) (q := 31) dX1_lampFor_30 rfl rfl rfl ?_
          first | refine aw_aload_n (i := 1) (q := 32) dX1_lampFor_31 rfl rfl rfl ?_ | refine aw_aloadN_n (i := 1) (q := 32) dX1_lampFor_31 rfl rfl rfl ?_ | refine aw_aloadQ_n (i := 1) (q := 32) dX1_lampFor_31 rfl rfl rfl ?_
          refine aw_getfield (q := 35) dX1_lampFor_32 gf_X1_128_3 (by assumption) rfl rfl ?_
          refine aw_callV (q := 38) dX1_lampFor_35 (C_hasLight h hO hj hf) cv_X1_131_1 (by assumption) rfl rfl (by decide) (by decide) (by first | exact Nat.le_of_ble_eq_true rfl | simp [zcat_rf, Value.category]) rfl (zpk ?_)
          refine aw_if_ne (tgt := 45) (q := 41) dX1_lampFor_38 (by decide) rfl (fun _ => ?_) (fun hZ => absurd hZ ((by rw [zB_t e2]; decide)))
          first | refine aw_aload_n (i := 0) (q := 46) dX1_lampFor_45 rfl rfl rfl ?_ | refine aw_aloadN_n (i := 0) (q := 46) dX1_lampFor_45 rfl rfl rfl ?_ | refine aw_aloadQ_n (i := 0) (q := 46) dX1_lampFor_45 rfl rfl rfl ?_
          refine aw_iload_n (i := 2) (q := 47) dX1_lampFor_46 rfl rfl rfl ?_
          refine aw_callV (q := 50) dX1_lampFor_47 (C_fit h hO h1 hj) cv_X1_144_1 (by assumption) rfl rfl (by decide) (by decide) (by first | exact Nat.le_of_ble_eq_true rfl | simp [zcat_rf, Value.category]) rfl (fun v47 μ1 hp => ?_)
          obtain ⟨rfl, g1, g2⟩ := hp
          exact s50 μ1 j (by rw [hlg]; exact g1) (by rw [hlg]; exact tPutIn_one h1 l12) (by rw [hlg]; exact tPutIn_ok hO) g2 hyes hj (by rw [hlg]; exact tPutIn_fit h1 l12 hj) _
        · have hno : tHasD P (P 1 k 1) = false := by unfold tHasD tBest; rw [hlit, e3]; simp
          have hlg : tLight P (P 1 k 1) = P := by
            unfold tLight tBest
            rw [if_neg hnl, if_neg c0, e3]
          first | refine aw_aload_n (i := 0) (q := 16) dX1_lampFor_15 rfl rfl rfl ?_ | refine aw_aloadN_n (i := 0) (q := 16) dX1_lampFor_15 rfl rfl rfl ?_ | refine aw_aloadQ_n (i := 0) (q := 16) dX1_lampFor_15 rfl rfl rfl ?_
          refine aw_callV (q := 19) dX1_lampFor_16 (hbs) cv_X1_135_1 (by assumption) rfl rfl (by decide) (by decide) (by first | exact Nat.le_of_ble_eq_true rfl | simp [zcat_rf, Value.category]) rfl (zpk ?_)
          refine aw_istore_n (i := 2) (q := 20) dX1_lampFor_19 rfl (by decide) rfl ?_
          first | refine aw_aload_n (i := 0) (q := 21) dX1_lampFor_20 rfl rfl rfl ?_ | refine aw_aloadN_n (i := 0) (q := 21) dX1_lampFor_20 rfl rfl rfl ?_ | refine aw_aloadQ_n (i := 0) (q := 21) dX1_lampFor_20 rfl rfl rfl ?_
          refine aw_getfield (q := 24) dX1_lampFor_21 gf_X1_9_1 (by assumption) rfl rfl ?_
          refine aw_iconst (v := 5) (q := 25) dX1_lampFor_24 rfl rfl ?_
          refine aw_iald (q := 26) (v := P 0 0 5) (5) dX1_lampFor_25 (by assumption) (by first | assumption | (simp only [← nI_add, ← pk_mul]; rfl) | rfl) (by omega) (by omega) (hsf 5 (by decide)) rfl ?_
          refine aw_if_eq (tgt := 41) (q := 29) dX1_lampFor_26 (by decide) rfl (fun hZ => absurd hZ (c0)) (fun _ => ?_)
          rw [show zNo (some j) = nI j from rfl]
          first | refine aw_aload_n (i := 0) (q := 30) dX1_lampFor_29 rfl rfl rfl ?_ | refine aw_aloadN_n (i := 0) (q := 30) dX1_lampFor_29 rfl rfl rfl ?_ | refine aw_aloadQ_n (i := 0) (q := 30) dX1_lampFor_29 rfl rfl rfl ?_
          refine aw_iload_n (i := 2) (q := 31) dX1_lampFor_30 rfl rfl rfl ?_
          first | refine aw_aload_n (i := 1) (q := 32) dX1_lampFor_31 rfl rfl rfl ?_ | refine aw_aloadN_n (i := 1) (q := 32) dX1_lampFor_31 rfl rfl rfl ?_ | refine aw_aloadQ_n (i := 1) (q := 32) dX1_lampFor_31 rfl rfl rfl ?_
          refine aw_getfield (q := 35) dX1_lampFor_32 gf_X1_128_3 (by assumption) rfl rfl ?_
          refine aw_callV (q := 38) dX1_lampFor_35 (C_hasLight h hO hj hf) cv_X1_131_1 (by assumption) rfl rfl (by decide) (by decide) (by first | exact Nat.le_of_ble_eq_true rfl | simp [zcat_rf, Value.category]) rfl (zpk ?_)
          refine aw_if_ne (tgt := 45) (q := 41) dX1_lampFor_38 (by decide) rfl (fun hZ => absurd ((fun q => q (zB_f e2))) hZ) (fun _ => ?_)
          exact s41 _ hno hlg
  have hfx := C_fitted h hO h1
  refine meets_of (by decide +kernel) (Nat.le_of_ble_eq_true rfl) ?_
  refine AW.bud (bc' := 0 + 1) (bs' := 0 + 1) ?_ (by omega) (by omega)
  rcases zFit_or (P := P) (pcn P 8) with ⟨e, hj⟩ | ⟨l, hl, e, hc⟩
  · have hlit : tLitD P (P 1 k 1) = false := by unfold tLitD tFit; rw [e]; exact decide_eq_false (fun q => absurd q.1 (by decide))
    rw [tFit, e] at hfx
    first | refine aw_aload_n (i := 0) (q := 1) dX1_lampFor_0 rfl rfl rfl ?_ | refine aw_aloadN_n (i := 0) (q := 1) dX1_lampFor_0 rfl rfl rfl ?_ | refine aw_aloadQ_n (i := 0) (q := 1) dX1_lampFor_0 rfl rfl rfl ?_
    first | refine aw_aload_n (i := 0) (q := 2) dX1_lampFor_1 rfl rfl rfl ?_ | refine aw_aloadN_n (i := 0) (q := 2) dX1_lampFor_1 rfl rfl rfl ?_ | refine aw_aloadQ_n (i := 0) (q := 2) dX1_lampFor_1 rfl rfl rfl ?_
    refine aw_callV (q := 5) dX1_lampFor_2 (hfx) cv_X1_122_1 (by assumption) rfl rfl (by decide) (by decide) (by first | exact Nat.le_of_ble_eq_true rfl | simp [zcat_rf, Value.category]) rfl (zpk ?_)
    first | refine aw_aload_n (i := 1) (q := 6) dX1_lampFor_5 rfl rfl rfl ?_ | refine aw_aloadN_n (i := 1) (q := 6) dX1_lampFor_5 rfl rfl rfl ?_ | refine aw_aloadQ_n (i := 1) (q := 6) dX1_lampFor_5 rfl rfl rfl ?_
    refine aw_getfield (q := 9) dX1_lampFor_6 gf_X1_128_3 (by assumption) rfl rfl ?_
    refine aw_callV (q := 12) dX1_lampFor_9 (C_hasLightN h) cv_X1_131_1 (by assumption) rfl rfl (by decide) (by decide) (by first | exact Nat.le_of_ble_eq_true rfl | simp [zcat_rf, Value.category]) rfl (zpk ?_)
    refine aw_if_ne (tgt := 50) (q := 15) dX1_lampFor_12 (by decide) rfl (fun hZ => absurd ((fun q => q rfl)) hZ) (fun _ => ?_)
    exact s15 hlit
  · have e' : tFit P = nI l := e
    rw [e'] at hfx
    by_cases q : P 1 k 1 ≤ tBr P l
    · have hlit : tLitD P (P 1 k 1) = true := by
        unfold tLitD; rw [e', nI_clamp (by omega)]; exact decide_eq_true ⟨nI_le (a := 0) (b := l) (by omega) (by omega), q⟩
      have hlg : tLight P (P 1 k 1) = P := by unfold tLight; rw [if_pos hlit]
      have hyes : tHasD P (P 1 k 1) = true := by unfold tHasD; rw [hlit]; rfl
      first | refine aw_aload_n (i := 0) (q := 1) dX1_lampFor_0 rfl rfl rfl ?_ | refine aw_aloadN_n (i := 0) (q := 1) dX1_lampFor_0 rfl rfl rfl ?_ | refine aw_aloadQ_n (i := 0) (q := 1) dX1_lampFor_0 rfl rfl rfl ?_
      first | refine aw_aload_n (i := 0) (q := 2) dX1_lampFor_1 rfl rfl rfl ?_ | refine aw_aloadN_n (i := 0) (q := 2) dX1_lampFor_1 rfl rfl rfl ?_ | refine aw_aloadQ_n (i := 0) (q := 2) dX1_lampFor_1 rfl rfl rfl ?_
      refine aw_callV (q := 5) dX1_lampFor_2 (hfx) cv_X1_122_1 (by assumption) rfl rfl (by decide) (by decide) (by first | exact Nat.le_of_ble_eq_true rfl | simp [zcat_rf, Value.category]) rfl (zpk ?_)
      first | refine aw_aload_n (i := 1) (q := 6) dX1_lampFor_5 rfl rfl rfl ?_ | refine aw_aloadN_n (i := 1) (q := 6) dX1_lampFor_5 rfl rfl rfl ?_ | refine aw_aloadQ_n (i := 1) (q := 6) dX1_lampFor_5 rfl rfl rfl ?_
      refine aw_getfield (q := 9) dX1_lampFor_6 gf_X1_128_3 (by assumption) rfl rfl ?_
      refine aw_callV (q := 12) dX1_lampFor_9 (C_hasLight h hO hl hf) cv_X1_131_1 (by assumption) rfl rfl (by decide) (by decide) (by first | exact Nat.le_of_ble_eq_true rfl | simp [zcat_rf, Value.category]) rfl (zpk ?_)
      refine aw_if_ne (tgt := 50) (q := 15) dX1_lampFor_12 (by decide) rfl (fun _ => ?_) (fun hZ => absurd hZ ((by rw [zB_t q]; decide)))
      exact s50 μ l (by rw [hlg]; exact h) (by rw [hlg]; exact h1) (by rw [hlg]; exact hO) zKp.rf hyes hl (by rw [hlg]; exact e') _
    · have hlit : tLitD P (P 1 k 1) = false := by
        unfold tLitD; rw [e', nI_clamp (by omega)]; exact decide_eq_false (fun z => q z.2)
      first | refine aw_aload_n (i := 0) (q := 1) dX1_lampFor_0 rfl rfl rfl ?_ | refine aw_aloadN_n (i := 0) (q := 1) dX1_lampFor_0 rfl rfl rfl ?_ | refine aw_aloadQ_n (i := 0) (q := 1) dX1_lampFor_0 rfl rfl rfl ?_
      first | refine aw_aload_n (i := 0) (q := 2) dX1_lampFor_1 rfl rfl rfl ?_ | refine aw_aloadN_n (i := 0) (q := 2) dX1_lampFor_1 rfl rfl rfl ?_ | refine aw_aloadQ_n (i := 0) (q := 2) dX1_lampFor_1 rfl rfl rfl ?_
      refine aw_callV (q := 5) dX1_lampFor_2 (hfx) cv_X1_122_1 (by assumption) rfl rfl (by decide) (by decide) (by first | exact Nat.le_of_ble_eq_true rfl | simp [zcat_rf, Value.category]) rfl (zpk ?_)
      first | refine aw_aload_n (i := 1) (q := 6) dX1_lampFor_5 rfl rfl rfl ?_ | refine aw_aloadN_n (i := 1) (q := 6) dX1_lampFor_5 rfl rfl rfl ?_ | refine aw_aloadQ_n (i := 1) (q := 6) dX1_lampFor_5 rfl rfl rfl ?_
      refine aw_getfield (q := 9) dX1_lampFor_6 gf_X1_128_3 (by assumption) rfl rfl ?_
      refine aw_callV (q := 12) dX1_lampFor_9 (C_hasLight h hO hl hf) cv_X1_131_1 (by assumption) rfl rfl (by decide) (by decide) (by first | exact Nat.le_of_ble_eq_true rfl | simp [zcat_rf, Value.category]) rfl (zpk ?_)
      refine aw_if_ne (tgt := 50) (q := 15) dX1_lampFor_12 (by decide) rfl (fun hZ => absurd ((fun z => z (zB_f q))) hZ) (fun _ => ?_)
      exact s15 hlit
end ZPI

/-! THE PROGRAMME: a show is held -/
set_option maxRecDepth 100000
theorem tTallyN_upd {P : zP} {b w n s i j : Nat} {v : Int32} (h6 : s ≠ 6) (h3 : s ≠ 3) (h4 : s = 4 → 4 ≤ j) : tTallyN (updP P s i j v) b w n = updP (tTallyN P b w n) s i j v := by
  funext s' i' j'
  have e4 : ∀ k, k < 3 → updP P s i j v 4 b k = P 4 b k := fun k hk => updP_ne (by omega)
  have e3 : ∀ x k, updP P s i j v 3 x k = P 3 x k := fun x k => updP_ne (by omega)
  have e6 : ∀ x k, updP P s i j v 6 x k = P 6 x k := fun x k => updP_ne (by omega)
  have es : tSh (updP P s i j v) b = tSh P b := by unfold tSh; rw [e4 0 (by decide)]
  unfold tTallyN tForD
  rw [es, e4 1 (by decide), e4 2 (by decide), e3, e3, e6, e6, e6, e6]
  by_cases e : s' = s ∧ i' = i ∧ j' = j
  · obtain ⟨rfl, rfl, rfl⟩ := e
    rw [if_neg (fun q => h6 q.1), updP_eq, updP_eq]
  · rw [updP_ne e, updP_ne e]
theorem tTally_upd {P : zP} {b w s i j : Nat} {v : Int32} (h6 : s ≠ 6) (h3 : s ≠ 3) (h4 : s = 4 → 4 ≤ j) (h0 : s ≠ 0) : tTally (updP P s i j v) b w = updP (tTally P b w) s i j v := by
  unfold tTally
  rw [pcn_upd (by omega)]
  exact tTallyN_upd h6 h3 h4
theorem updP_comm {P : zP} {s i j s' i' j' : Nat} {v v' : Int32} (h : ¬ (s = s' ∧ i = i' ∧ j = j')) : updP (updP P s i j v) s' i' j' v' = updP (updP P s' i' j' v') s i j v := by
  funext x y z
  by_cases e : x = s ∧ y = i ∧ z = j
  · obtain ⟨rfl, rfl, rfl⟩ := e
    rw [updP_ne h, updP_eq, updP_eq]
  · by_cases e' : x = s' ∧ y = i' ∧ z = j'
    · obtain ⟨rfl, rfl, rfl⟩ := e'
      rw [updP_eq, updP_ne e, updP_eq]
    · rw [updP_ne e', updP_ne e, updP_ne e, updP_ne e']
/-- closing doesn't look at lamps -/
theorem tCloseN_lamp {P : zP} {D : Nat → Int32} {s l j : Nat} {st v : Int32} (hst : st ≠ 4) : ∀ n, (tCloseN (updP P 2 l j v) D s st n).1 = updP (tCloseN P D s st n).1 2 l j v
  | 0 => rfl
  | n + 1 => by
    have ih := tCloseN_lamp (P := P) (D := D) (s := s) (l := l) (j := j) (v := v) hst n
    have e : ∀ a b c, a ≠ 2 → updP P 2 l j v a b c = P a b c := fun a b c h => updP_ne (by omega)
    unfold tCloseN
    rw [e 4 n 0 (by decide), e 4 n 4 (by decide)]
    split
    · rw [if_neg hst, if_neg hst]
      show tCloseQ _ _ _ _ = updP (tCloseQ _ _ _ _) _ _ _ _
      unfold tCloseQ
      rw [ih, e 4 n 5 (by decide), e 0 0 3 (by decide), tTally_upd (by decide) (by decide) (by decide) (by decide), updP_comm (by omega), updP_comm (P := updP (tTally _ _ _) 4 n 4 st) (by omega)]
    · exact ih
section ZPJ
variable {G : zG} {μ : zM} {p o : Nat} {P : zP} {A : Nat → Nat → Nat} {c : Nat → Int32}
/-- a booking's state or refund changes -/
theorem zPR.bset {μ' : zM} {b r : Nat} {f : Nat → Int32} {st rf : Int32} (h : zPR G μ p o P A c) (hO : tOk P) (hb : b < pcn P 10) (hob : μ (A 4 b) = some (obT 4 b o, oBk (P 4 b 0) (P 4 b 1) (P 4 b 2) (P 4 b 3) (P 4 b 5) (P 4 b 4) (P 4 b 6) r)) (hr : μ r = some (oaT 4 b o, aI G 8 f)) (hf : ∀ j, j < 8 → f j = P 4 b (8 + j)) (hμ : μ' = updM μ (A 4 b) (obT 4 b o, oBk (P 4 b 0) (P 4 b 1) (P 4 b 2) (P 4 b 3) (P 4 b 5) st rf r)) : zPR G μ' p o (updP (updP P 4 b 4 st) 4 b 6 rf) A c ∧ zKp (zKo o) μ μ' := by
  have hne : r ≠ A 4 b := zneq hr hob (by simp)
  have en : ∀ j, j ≠ 4 → j ≠ 6 → updP (updP P 4 b 4 st) 4 b 6 rf 4 b j = P 4 b j := fun j h1 h2 => (updP_ne (by omega)).trans (updP_ne (by omega))
  have e4 : updP (updP P 4 b 4 st) 4 b 6 rf 4 b 4 = st := (updP_ne (by omega)).trans (updP_eq _ _ _ _ _)
  have e6 : updP (updP P 4 b 4 st) 4 b 6 rf 4 b 6 = rf := updP_eq _ _ _ _ _
  refine ⟨h.one (s0 := 4) (i0 := b) hO (Or.inr (Or.inr (Or.inr (Or.inl rfl)))) hb (hμ ▸ zKp.put hob (Or.inl rfl)) (fun j => by rw [updP_ne (by omega), updP_ne (by omega)]) ?_ ?_, hμ ▸ zKp.put hob zKo.ob⟩
  · refine ⟨r, f, ?_, hμ ▸ (updM_ne hne).trans hr, fun j hj => ?_⟩
    · rw [en 0 (by decide) (by decide), en 1 (by decide) (by decide), en 2 (by decide) (by decide), en 3 (by decide) (by decide), en 5 (by decide) (by decide), e4, e6, hμ]
      exact updM_eq _ _ _
    · rw [updP_ne (by omega), updP_ne (by omega)]; exact hf j hj
  · intro s i _ _ hn
    refine ⟨fun j _ => by rw [updP_ne (by omega), updP_ne (by omega)], fun _ j hj => ?_⟩
    unfold tFreeIn
    rw [pcn_upd (by omega), pcn_upd (by omega)]
    exact tFreeInF_congr _ (fun x _ => ⟨by rw [updP_ne (by omega), updP_ne (by omega)], by rw [updP_ne (by omega), updP_ne (by omega)]⟩)
/-- a show's own fields change -/
theorem zPR.sset {μ' : zM} {i j0 t r : Nat} {f : Nat → Int32} {v k st la wo mo : Int32} (h : zPR G μ p o P A c) (hO : tOk P) (hi : i < pcn P 9) (hob : μ (A 3 i) = some (obT 3 i o, oSh (P 3 i 0) t (P 3 i 3) (P 3 i 4) (P 3 i 5) (P 3 i 6) r)) (htm : μ t = some ((0, 0), oTime (P 3 i 1) (P 3 i 2))) (hr : μ r = some (oaT 3 i o, aI G 8 f)) (hf : ∀ j, j < 8 → f j = tFreeIn P (nI i) j) (hμ : μ' = updM μ (A 3 i) (obT 3 i o, oSh k t st la wo mo r)) (e0 : updP P 3 i j0 v 3 i 0 = k) (e1 : j0 ≠ 1 ∧ j0 ≠ 2) (e3 : updP P 3 i j0 v 3 i 3 = st) (e4 : updP P 3 i j0 v 3 i 4 = la) (e5 : updP P 3 i j0 v 3 i 5 = wo) (e6 : updP P 3 i j0 v 3 i 6 = mo) : zPR G μ' p o (updP P 3 i j0 v) A c ∧ zKp (zKo o) μ μ' := by
  have n1 : r ≠ A 3 i := zneq hr hob (by simp)
  have n2 : t ≠ A 3 i := zneq htm hob (by simp)
  refine ⟨h.set hO (Or.inr (Or.inr (Or.inl rfl))) (by decide) hi (hμ ▸ zKp.put hob (Or.inl rfl)) ?_, hμ ▸ zKp.put hob zKo.ob⟩
  refine ⟨t, r, f, ?_, ?_, hμ ▸ (updM_ne n1).trans hr, fun j hj => ?_⟩
  · rw [e0, e3, e4, e5, e6, hμ]; exact updM_eq _ _ _
  · rw [updP_ne (by omega), updP_ne (by omega), hμ]; exact (updM_ne n2).trans htm
  · rw [hf j hj]
    unfold tFreeIn
    rw [pcn_upd (by omega)]
    exact (tFreeInF_congr _ (fun x _ => ⟨updP_ne (by omega), updP_ne (by omega)⟩)).symm
end ZPJ

/-! THE PROGRAMME: a show is held (holds) -/
set_option maxRecDepth 100000
theorem tCloseN_los {P : zP} {D : Nat → Int32} {s : Nat} : ∀ n, (tCloseN P D s 4 n).1 = tLosN P s 1 false n
  | 0 => rfl
  | n + 1 => by
    have ih := tCloseN_los (P := P) (D := D) (s := s) n
    unfold tCloseN tLosN
    by_cases q : P 4 n 0 = nI s ∧ P 4 n 4 = 0
    · rw [if_pos q, if_pos rfl, if_pos ⟨q.1, q.2, fun e => by cases e⟩]
      show tLose _ n 1 = _
      rw [ih]
    · rw [if_neg q, if_neg (fun z => q ⟨z.1, z.2.1⟩)]
      exact ih
section ZPK
variable {G : zG} {μ : zM} {p o : Nat} {P : zP} {A : Nat → Nat → Nat} {c : Nat → Int32}
/-- held changes -/
theorem zPR.held {μ' : zM} {v : Int32} (h : zPR G μ p o P A c) (hμ : μ' = updM μ p (pgT 0 o, oPG A (upd c 0 v) P)) : zPR G μ' p o P A (upd c 0 v) ∧ zKp (zKo o) μ μ' := by
  obtain ⟨h1, ⟨f, h2, h3⟩, h4⟩ := h
  have hk : zKp (fun _ u => u = pgT 0 o) μ μ' := hμ ▸ zKp.put h1 rfl
  have nt : ∀ (b m : Nat), m ≠ 20000 → ¬ ((m, o) : zT) = pgT 0 o := fun b m hm q => hm (congrArg Prod.fst q)
  refine ⟨⟨hμ ▸ updM_eq _ _ _, ⟨f, hk _ _ _ h2 (nt 0 _ (by omega)), h3⟩, fun s hs => ?_⟩, hμ ▸ zKp.put h1 ⟨rfl, Nat.le_refl _⟩⟩
  have sl := hs.lt
  rw [pk_un (by omega)]
  refine ⟨(h4 s hs).1.kp hk (fun b => nt b _ (by omega)) (fun b => nt b _ (by omega)), fun i hi => ((h4 s hs).2 i hi).kp hs hk (fun b q => ?_) (fun b => nt b _ (by omega)) (fun b => nt b _ (by omega)) zSm.rf⟩
  have e1 : 0 = 20000 + 0 := congrArg Prod.fst q
  omega
/-- a lamp's hours and place change -/
theorem zPR.lwear {μ' : zM} {i : Nat} {u v : Int32} (h : zPR G μ p o P A c) (hO : tOk P) (hi : i < pcn P 8) (hμ : μ' = updM μ (A 2 i) (obT 2 i o, oLamp (P 2 i 0) u v)) : zPR G μ' p o (updP (updP P 2 i 1 u) 2 i 2 v) A c ∧ zKp (zKo o) μ μ' := by
  have hla := h.la hi
  refine ⟨h.one (s0 := 2) (i0 := i) hO (Or.inr (Or.inl rfl)) hi (hμ ▸ zKp.put hla (Or.inl rfl)) (fun j => by rw [updP_ne (by omega), updP_ne (by omega)]) ?_ (fun s j _ _ n => zSm.of (fun x _ => by rw [updP_ne (by omega), updP_ne (by omega)]) (by rw [updP_ne (by omega), updP_ne (by omega)]) (fun b x => by rw [updP_ne (by omega), updP_ne (by omega)])), hμ ▸ zKp.put hla zKo.ob⟩
  have e0 : updP (updP P 2 i 1 u) 2 i 2 v 2 i 0 = P 2 i 0 := (updP_ne (by omega)).trans (updP_ne (by omega))
  have e1 : updP (updP P 2 i 1 u) 2 i 2 v 2 i 1 = u := (updP_ne (by omega)).trans (updP_eq _ _ _ _ _)
  have e2 : updP (updP P 2 i 1 u) 2 i 2 v 2 i 2 = v := updP_eq _ _ _ _ _
  show μ' (A 2 i) = some (obT 2 i o, oLamp (updP (updP P 2 i 1 u) 2 i 2 v 2 i 0) (updP (updP P 2 i 1 u) 2 i 2 v 2 i 1) (updP (updP P 2 i 1 u) 2 i 2 v 2 i 2))
  rw [e0, e1, e2, hμ]
  exact updM_eq _ _ _
/-- how many shows a lamp had isn't said by memory -/
theorem zPR.l3 {i : Nat} {v : Int32} (h : zPR G μ p o P A c) (hO : tOk P) (hi : i < pcn P 8) : zPR G μ p o (updP P 2 i 3 v) A c := by
  refine h.set hO (Or.inr (Or.inl rfl)) (by decide) hi zKp.rf ?_
  show μ (A 2 i) = some (obT 2 i o, oLamp (updP P 2 i 3 v 2 i 0) (updP P 2 i 3 v 2 i 1) (updP P 2 i 3 v 2 i 2))
  rw [updP_ne (by omega), updP_ne (by omega), updP_ne (by omega)]
  exact h.la hi
end ZPK

/-! THE PROGRAMME: a show is held (holds), the walk -/
set_option maxRecDepth 100000
section ZPL
variable {G : zG} {μ : zM} {p o : Nat} {P : zP} {A : Nat → Nat → Nat} {c : Nat → Int32}
theorem tCloseQ_o {P Q : zP} {b : Nat} {st : Int32} {s i j : Nat} (h : s ≠ 4 ∧ s ≠ 6) : tCloseQ P Q b st s i j = Q s i j := tCloseQ_same s i j (Or.inl h)
set_option maxHeartbeats 16000000 in
/-- the bookings of a show that was held -/
theorem hld_loop {s : Nat} {st : Int32} (hst : st = 1 ∨ st = 2) (hO : tOk P) (hB : tBkOk P) (hs : s < pcn P 9) (h3 : P 3 s 3 = st) {it : Nat} {post : Option Value → zM → Prop} {k0 l0 : Value} (hpost : ∀ μ', zPR G μ' p o (tCloseN P tZ s st (pcn P 10)).1 A c → zKp (zKo o) μ μ' → post none μ') (hitn : μ it = none) : ∀ (rem k : Nat) (lr : Int32) (μ2 : zM), k + rem = pcn P 10 → zPR G μ2 p o (tCloseN P tZ s st k).1 A c → zKp (zKo o) μ μ2 → μ2 it = some (zTI, oItr k lr (c 4) (A 7 4)) → AW G 9 MX1_holds post rem (4 * rem) 139 [(0, .ref p), (1, .int (nI s)), (2, .ref (A 3 s)), (5, .ref it)] [] μ2 := by
  have b80 : pcn P 10 ≤ 80 := hO.b.2
  have ec : ∀ n j, pcn (tCloseN P tZ s st n).1 j = pcn P j := fun n j => (tCloseN_same n).cn j
  have hs4 : st ≠ 4 := by rcases hst with rfl | rfl <;> decide
  intro rem
  induction rem with
  | zero =>
    intro k lr μ2 hk h2 hkp hi
    have ek : k = pcn P 10 := by omega
    have hL2 := h2.lbk
    obtain ⟨_, chL2⟩ := hL2.cell
    rw [ec] at hL2
    first | refine aw_aload (q := 141) dX1_holds_139 rfl rfl ?_ | refine aw_aloadN (q := 141) dX1_holds_139 rfl rfl ?_ | refine aw_aloadQ (q := 141) dX1_holds_139 rfl rfl ?_
    refine aw_callF (q := 146) dX1_holds_141 (C_Itr_hasNext hL2 hi) cf_X1_56_11 (by assumption) rfl rfl (by decide) (by decide) (by first | exact Nat.le_of_ble_eq_true rfl | simp [zcat_rf, Value.category]) rfl (zpk ?_)
    refine aw_if_eq (tgt := 250) (q := 149) dX1_holds_146 (by decide) rfl (fun _ => ?_) (fun hZ => absurd ((zB_f (fun q => q (by rw [ek])))) hZ)
    exact aw_return dX1_holds_250 rfl (hpost _ (by rw [ek] at h2; exact h2) hkp)
  | succ rem ih =>
    intro k lr μ2 hk h2 hkp hi
    have hkn : k < pcn P 10 := by omega
    have hL2 := h2.lbk
    obtain ⟨_, chL2⟩ := hL2.cell
    rw [ec] at hL2
    refine AW.bud (bc' := rem + 1) (bs' := 4 * rem + 4) ?_ (by omega) (by omega)
    first | refine aw_aload (q := 141) dX1_holds_139 rfl rfl ?_ | refine aw_aloadN (q := 141) dX1_holds_139 rfl rfl ?_ | refine aw_aloadQ (q := 141) dX1_holds_139 rfl rfl ?_
    refine aw_callF (q := 146) dX1_holds_141 (C_Itr_hasNext hL2 hi) cf_X1_56_11 (by assumption) rfl rfl (by decide) (by decide) (by first | exact Nat.le_of_ble_eq_true rfl | simp [zcat_rf, Value.category]) rfl (zpk ?_)
    refine aw_if_eq (tgt := 250) (q := 149) dX1_holds_146 (by decide) rfl (fun hZ => absurd hZ (zHn hkn (by omega))) (fun _ => ?_)
    first | refine aw_aload (q := 151) dX1_holds_149 rfl rfl ?_ | refine aw_aloadN (q := 151) dX1_holds_149 rfl rfl ?_ | refine aw_aloadQ (q := 151) dX1_holds_149 rfl rfl ?_
    refine aw_callF (q := 156) dX1_holds_151 (C_Itr_next hL2 hi hkn zTI_nz zTI_ls zTI_la) cf_X1_62_11 (by assumption) rfl rfl (by decide) (by decide) (by first | exact Nat.le_of_ble_eq_true rfl | simp [zcat_rf, Value.category]) rfl (fun v151 μ3 hp => ?_)
    obtain ⟨rfl, hg3⟩ := hp
    have h3' := h2.ti hi hg3
    have hkp3 : zKp (zKo o) μ μ3 := hg3 ▸ hkp.it hitn
    have hi3 : μ3 it = _ := hg3 ▸ updM_eq _ _ _
    have hp3 := h3'.1
    have hO3 := (tCloseN_same (P := P) (D := tZ) (s := s) (st := st) k).ok hO
    have hB3 := (tCloseN_same (P := P) (D := tZ) (s := s) (st := st) k).bkOk hB
    have eb : ∀ j, (tCloseN P tZ s st k).1 4 k j = P 4 k j := fun j => tCloseN_bk k (Nat.le_refl k)
    have e0 : ∀ j, (tCloseN P tZ s st k).1 0 0 j = P 0 0 j := fun j => tCloseN_same k 0 0 j (by omega)
    obtain ⟨fse, hse, hsf⟩ := h3'.2.1
    obtain ⟨r, f, hob, hr, hf⟩ := h3'.bk (i := k) (by rw [ec]; exact hkn)
    obtain ⟨t, fr, f2, hsh, -, -, -⟩ := h3'.sh (i := s) (by rw [ec]; exact hs)
    rw [show (tCloseN P tZ s st k).1 3 s 3 = st from (tCloseN_same k 3 s 3 (by omega)).trans h3] at hsh
    have hob0 := hob
    have hoz : obT 4 k o ≠ zC := obT_nz
    have nit : it ≠ A 4 k := zneq hi3 hob (by simp)
    have nsh : A 3 s ≠ A 4 k := zneq hsh hob (by simp)
    have nse : A 0 0 ≠ A 4 k := zneq hse hob (by simp)
    have npp : p ≠ A 4 k := zneq hp3 hob (by simp)
    have skip : ¬ (P 4 k 0 = nI s ∧ P 4 k 4 = 0) → AW G 9 MX1_holds post (rem + 1) (4 * rem + 4) 247 [(0, .ref p), (1, .int (nI s)), (2, .ref (A 3 s)), (5, .ref it)] [] μ3 := by
      intro hn
      have e : tCloseN P tZ s st (k + 1) = tCloseN P tZ s st k := if_neg hn
      refine aw_goto (tgt := 139) dX1_holds_247 (by decide) ?_
      exact AW.bud (aw_locals (by exact ⟨rfl, rfl, rfl, rfl, trivial⟩) (ih (k + 1) _ μ3 (by omega) (by rw [e]; exact h3') hkp3 hi3)) (by omega) (by omega)
    have take : ∀ (μ4 : zM) (rf : Int32) (w : Nat), P 4 k 0 = nI s ∧ P 4 k 4 = 0 → (if st = 1 then 0 else 3) = w → rf = (if st = 1 then 0 else P 4 k 5 * P 0 0 3 / 100) → μ4 = updM μ3 (A 4 k) (obT 4 k o, oBk ((tCloseN P tZ s st k).1 4 k 0) ((tCloseN P tZ s st k).1 4 k 1) ((tCloseN P tZ s st k).1 4 k 2) ((tCloseN P tZ s st k).1 4 k 3) ((tCloseN P tZ s st k).1 4 k 5) st rf r) → AW G 9 MX1_holds post (rem + 1) (4 * rem + 4) 244 [(0, .ref p), (1, .int (nI s)), (2, .ref (A 3 s)), (5, .ref it), (6, .ref (A 4 k))] [.int (nI w), .ref (A 4 k), .ref p] μ4 := by
      intro μ4 rf w hy hw hrf hg4
      have e : (tCloseN P tZ s st (k + 1)).1 = tCloseQ P (tCloseN P tZ s st k).1 k st := by
        show (if P 4 k 0 = nI s ∧ P 4 k 4 = 0 then _ else _ : zP × (Nat → Int32)).1 = _
        rw [if_pos hy, if_neg hs4]
      have w5 : w < 5 := by rw [← hw]; split <;> decide
      obtain ⟨h4, k4⟩ := h3'.bset hO3 (by rw [ec]; exact hkn) hob0 hr hf hg4
      have ok4 : tOk (updP (updP (tCloseN P tZ s st k).1 4 k 4 st) 4 k 6 rf) := (hO3.upd (Or.inl (by decide))).upd (Or.inl (by decide))
      have ec4 : ∀ j, pcn (updP (updP (tCloseN P tZ s st k).1 4 k 4 st) 4 k 6 rf) j = pcn P j := fun j => by rw [pcn_upd (by omega), pcn_upd (by omega), ec]
      have bk4 : tBkOk (updP (updP (tCloseN P tZ s st k).1 4 k 4 st) 4 k 6 rf) := fun b hb => by
        have hb' : b < pcn (tCloseN P tZ s st k).1 10 := by rw [ec4] at hb; rw [ec]; exact hb
        have z := hB3 b hb'
        unfold tSh at z ⊢
        rw [updP_ne (by omega), updP_ne (by omega), ec4, ← ec k 9]
        exact z
      have hi4 := k4 _ _ _ hi3 (fun q => by have q2 : 20000 ≤ 0 := q.2; omega)
      have hp4 := h4.1
      refine aw_callV (q := 247) dX1_holds_244 (C_counts (b := k) (w := w) h4 ok4 bk4 (by rw [ec4]; exact hkn) w5) cv_X1_165_1 (by assumption) rfl rfl (by decide) (by decide) (by first | exact Nat.le_of_ble_eq_true rfl | simp [zcat_rf, Value.category]) rfl (fun v244 μ5 hp => ?_)
      obtain ⟨rfl, h5, k5⟩ := hp
      have hi5 := k5 _ _ _ hi4 (fun q => by have q2 : 20000 ≤ 0 := q.2; omega)
      have efin : tTally (updP (updP (tCloseN P tZ s st k).1 4 k 4 st) 4 k 6 rf) k w = (tCloseN P tZ s st (k + 1)).1 := by
        rw [e, tTally_upd (by decide) (by decide) (by decide) (by decide), tTally_upd (by decide) (by decide) (by decide) (by decide)]
        unfold tCloseQ
        rw [hw, hrf]
      rw [efin] at h5
      refine aw_goto (tgt := 139) dX1_holds_247 (by decide) ?_
      exact AW.bud (aw_locals (by exact ⟨rfl, rfl, rfl, rfl, trivial⟩) (ih (k + 1) _ μ5 (by omega) h5 ((hkp3.tr k4).tr k5) hi5)) (by omega) (by omega)
    refine aw_cast (q := 159) dX1_holds_156 q583 hob ca_6_X6 rfl ?_
    first | refine aw_astore (q := 161) dX1_holds_159 (by decide) rfl ?_ | refine aw_astoreN (q := 161) dX1_holds_159 (by decide) rfl ?_ | refine aw_astoreQ (q := 161) dX1_holds_159 (by decide) rfl ?_
    try simp (config := {decide := true}) only [zput, zdel_q, zdel_f, zdel_t, zdel_nil, zdel_r, zdel_i, zdel_n]
    first | refine aw_aload (q := 163) dX1_holds_161 rfl rfl ?_ | refine aw_aloadN (q := 163) dX1_holds_161 rfl rfl ?_ | refine aw_aloadQ (q := 163) dX1_holds_161 rfl rfl ?_
    refine aw_getfield (q := 166) dX1_holds_163 gf_X1_155_6 (by assumption) rfl rfl ?_
    refine aw_iload_n (i := 1) (q := 167) dX1_holds_166 rfl rfl rfl ?_
    refine aw_icmp_ne (tgt := 247) (q := 170) dX1_holds_167 (by decide) rfl (fun c1 => ?_) (fun c1 => ?_)
    · skip
      refine aw_locals (by exact ⟨rfl, rfl, rfl, rfl, trivial⟩) (skip (fun q => c1 (by rw [eb]; exact q.1)))
    · first | refine aw_aload (q := 172) dX1_holds_170 rfl rfl ?_ | refine aw_aloadN (q := 172) dX1_holds_170 rfl rfl ?_ | refine aw_aloadQ (q := 172) dX1_holds_170 rfl rfl ?_
      refine aw_getfield (q := 175) dX1_holds_172 gf_X1_176_6 (by assumption) rfl rfl ?_
      refine aw_if_ne (tgt := 247) (q := 178) dX1_holds_175 (by decide) rfl (fun c2 => ?_) (fun c2 => ?_)
      · skip
        refine aw_locals (by exact ⟨rfl, rfl, rfl, rfl, trivial⟩) (skip (fun q => c2 (by rw [eb]; exact q.2)))
      · first | refine aw_aload (q := 180) dX1_holds_178 rfl rfl ?_ | refine aw_aloadN (q := 180) dX1_holds_178 rfl rfl ?_ | refine aw_aloadQ (q := 180) dX1_holds_178 rfl rfl ?_
        first | refine aw_aload_n (i := 2) (q := 181) dX1_holds_180 rfl rfl rfl ?_ | refine aw_aloadN_n (i := 2) (q := 181) dX1_holds_180 rfl rfl rfl ?_ | refine aw_aloadQ_n (i := 2) (q := 181) dX1_holds_180 rfl rfl rfl ?_
        refine aw_getfield (q := 184) dX1_holds_181 gf_X1_263_5 (by assumption) rfl rfl ?_
        refine aw_iconst (v := 1) (q := 185) dX1_holds_184 rfl rfl ?_
        have hy : P 4 k 0 = nI s ∧ P 4 k 4 = 0 := ⟨by rw [← eb]; exact c1, by rw [← eb]; exact c2⟩
        rcases hst with rfl | rfl
        · refine aw_icmp_ne (tgt := 192) (q := 188) dX1_holds_185 (by decide) rfl (fun hZ => absurd (rfl) hZ) (fun _ => ?_)
          refine aw_iconst (v := 1) (q := 189) dX1_holds_188 rfl rfl ?_
          refine aw_goto (tgt := 193) dX1_holds_189 (by decide) ?_
          refine aw_putfield (q := 196) dX1_holds_193 gf_X1_176_6 hob (by first | assumption | simp) (by first | rfl | exact znar_rf _ _ | exact zB_nar _) (by first | rfl | exact zfit_rf _ _ | exact zB_fit _) (Nat.le_of_ble_eq_true rfl) rfl (fun μ4 hg_μ4 => ?_)
          have hsh : μ4 _ = some _ := hg_μ4 ▸ (updM_ne nsh).trans hsh
          have hse : μ4 _ = some _ := hg_μ4 ▸ (updM_ne nse).trans hse
          have hp3 : μ4 _ = some _ := hg_μ4 ▸ (updM_ne npp).trans hp3
          have hob : μ4 _ = some _ := hg_μ4 ▸ updM_eq _ _ _
          simp only [List.set] at hob hg_μ4
          first | refine aw_aload (q := 198) dX1_holds_196 rfl rfl ?_ | refine aw_aloadN (q := 198) dX1_holds_196 rfl rfl ?_ | refine aw_aloadQ (q := 198) dX1_holds_196 rfl rfl ?_
          first | refine aw_aload_n (i := 2) (q := 199) dX1_holds_198 rfl rfl rfl ?_ | refine aw_aloadN_n (i := 2) (q := 199) dX1_holds_198 rfl rfl rfl ?_ | refine aw_aloadQ_n (i := 2) (q := 199) dX1_holds_198 rfl rfl rfl ?_
          refine aw_getfield (q := 202) dX1_holds_199 gf_X1_263_5 (by assumption) rfl rfl ?_
          refine aw_iconst (v := 1) (q := 203) dX1_holds_202 rfl rfl ?_
          refine aw_icmp_ne (tgt := 210) (q := 206) dX1_holds_203 (by decide) rfl (fun hZ => absurd (rfl) hZ) (fun _ => ?_)
          refine aw_iconst (v := 0) (q := 207) dX1_holds_206 rfl rfl ?_
          refine aw_goto (tgt := 225) dX1_holds_207 (by decide) ?_
          refine aw_putfield (q := 228) dX1_holds_225 gf_X1_290_6 hob (by first | assumption | simp) (by first | rfl | exact znar_rf _ _ | exact zB_nar _) (by first | rfl | exact zfit_rf _ _ | exact zB_fit _) (Nat.le_of_ble_eq_true rfl) rfl (fun μ5 hg_μ5 => ?_)
          have hsh : μ5 _ = some _ := hg_μ5 ▸ (updM_ne nsh).trans hsh
          have hse : μ5 _ = some _ := hg_μ5 ▸ (updM_ne nse).trans hse
          have hp3 : μ5 _ = some _ := hg_μ5 ▸ (updM_ne npp).trans hp3
          have hob : μ5 _ = some _ := hg_μ5 ▸ updM_eq _ _ _
          simp only [List.set] at hob hg_μ5
          first | refine aw_aload_n (i := 0) (q := 229) dX1_holds_228 rfl rfl rfl ?_ | refine aw_aloadN_n (i := 0) (q := 229) dX1_holds_228 rfl rfl rfl ?_ | refine aw_aloadQ_n (i := 0) (q := 229) dX1_holds_228 rfl rfl rfl ?_
          first | refine aw_aload (q := 231) dX1_holds_229 rfl rfl ?_ | refine aw_aloadN (q := 231) dX1_holds_229 rfl rfl ?_ | refine aw_aloadQ (q := 231) dX1_holds_229 rfl rfl ?_
          first | refine aw_aload_n (i := 2) (q := 232) dX1_holds_231 rfl rfl rfl ?_ | refine aw_aloadN_n (i := 2) (q := 232) dX1_holds_231 rfl rfl rfl ?_ | refine aw_aloadQ_n (i := 2) (q := 232) dX1_holds_231 rfl rfl rfl ?_
          refine aw_getfield (q := 235) dX1_holds_232 gf_X1_263_5 (by assumption) rfl rfl ?_
          refine aw_iconst (v := 1) (q := 236) dX1_holds_235 rfl rfl ?_
          refine aw_icmp_ne (tgt := 243) (q := 239) dX1_holds_236 (by decide) rfl (fun hZ => absurd (rfl) hZ) (fun _ => ?_)
          refine aw_iconst (v := 0) (q := 240) dX1_holds_239 rfl rfl ?_
          refine aw_goto (tgt := 244) dX1_holds_240 (by decide) ?_
          refine aw_locals (by exact ⟨rfl, rfl, rfl, rfl, rfl, trivial⟩) (take μ5 0 0 hy (by decide) (if_pos rfl).symm (by rw [hg_μ5, hg_μ4, updM_twice]))
        · skip
          refine aw_icmp_ne (tgt := 192) (q := 188) dX1_holds_185 (by decide) rfl (fun _ => ?_) (fun hZ => absurd hZ ((by decide)))
          refine aw_iconst (v := 2) (q := 193) dX1_holds_192 rfl rfl ?_
          refine aw_putfield (q := 196) dX1_holds_193 gf_X1_176_6 hob (by first | assumption | simp) (by first | rfl | exact znar_rf _ _ | exact zB_nar _) (by first | rfl | exact zfit_rf _ _ | exact zB_fit _) (Nat.le_of_ble_eq_true rfl) rfl (fun μ4 hg_μ4 => ?_)
          have hsh : μ4 _ = some _ := hg_μ4 ▸ (updM_ne nsh).trans hsh
          have hse : μ4 _ = some _ := hg_μ4 ▸ (updM_ne nse).trans hse
          have hp3 : μ4 _ = some _ := hg_μ4 ▸ (updM_ne npp).trans hp3
          have hob : μ4 _ = some _ := hg_μ4 ▸ updM_eq _ _ _
          simp only [List.set] at hob hg_μ4
          first | refine aw_aload (q := 198) dX1_holds_196 rfl rfl ?_ | refine aw_aloadN (q := 198) dX1_holds_196 rfl rfl ?_ | refine aw_aloadQ (q := 198) dX1_holds_196 rfl rfl ?_
          first | refine aw_aload_n (i := 2) (q := 199) dX1_holds_198 rfl rfl rfl ?_ | refine aw_aloadN_n (i := 2) (q := 199) dX1_holds_198 rfl rfl rfl ?_ | refine aw_aloadQ_n (i := 2) (q := 199) dX1_holds_198 rfl rfl rfl ?_
          refine aw_getfield (q := 202) dX1_holds_199 gf_X1_263_5 (by assumption) rfl rfl ?_
          refine aw_iconst (v := 1) (q := 203) dX1_holds_202 rfl rfl ?_
          refine aw_icmp_ne (tgt := 210) (q := 206) dX1_holds_203 (by decide) rfl (fun _ => ?_) (fun hZ => absurd hZ ((by decide)))
          first | refine aw_aload (q := 212) dX1_holds_210 rfl rfl ?_ | refine aw_aloadN (q := 212) dX1_holds_210 rfl rfl ?_ | refine aw_aloadQ (q := 212) dX1_holds_210 rfl rfl ?_
          refine aw_getfield (q := 215) dX1_holds_212 gf_X1_169_6 (by assumption) rfl rfl ?_
          first | refine aw_aload_n (i := 0) (q := 216) dX1_holds_215 rfl rfl rfl ?_ | refine aw_aloadN_n (i := 0) (q := 216) dX1_holds_215 rfl rfl rfl ?_ | refine aw_aloadQ_n (i := 0) (q := 216) dX1_holds_215 rfl rfl rfl ?_
          refine aw_getfield (q := 219) dX1_holds_216 gf_X1_9_1 (by assumption) rfl rfl ?_
          refine aw_iconst (v := 3) (q := 220) dX1_holds_219 rfl rfl ?_
          refine aw_iald (q := 221) (v := P 0 0 3) (3) dX1_holds_220 (by assumption) (by first | assumption | (simp only [← nI_add, ← pk_mul]; rfl) | rfl) (by omega) (by omega) ((hsf 3 (by decide)).trans (e0 3)) rfl ?_
          refine aw_imul (q := 222) dX1_holds_221 rfl ?_
          refine aw_bipush (v := 100) (q := 224) dX1_holds_222 rfl rfl ?_
          refine aw_idiv (q := 225) dX1_holds_224 (by decide) rfl ?_
          refine aw_putfield (q := 228) dX1_holds_225 gf_X1_290_6 hob (by first | assumption | simp) (by first | rfl | exact znar_rf _ _ | exact zB_nar _) (by first | rfl | exact zfit_rf _ _ | exact zB_fit _) (Nat.le_of_ble_eq_true rfl) rfl (fun μ5 hg_μ5 => ?_)
          have hsh : μ5 _ = some _ := hg_μ5 ▸ (updM_ne nsh).trans hsh
          have hse : μ5 _ = some _ := hg_μ5 ▸ (updM_ne nse).trans hse
          have hp3 : μ5 _ = some _ := hg_μ5 ▸ (updM_ne npp).trans hp3
          have hob : μ5 _ = some _ := hg_μ5 ▸ updM_eq _ _ _
          simp only [List.set] at hob hg_μ5
          first | refine aw_aload_n (i := 0) (q := 229) dX1_holds_228 rfl rfl rfl ?_ | refine aw_aloadN_n (i := 0) (q := 229) dX1_holds_228 rfl rfl rfl ?_ | refine aw_aloadQ_n (i := 0) (q := 229) dX1_holds_228 rfl rfl rfl ?_
          first | refine aw_aload (q := 231) dX1_holds_229 rfl rfl ?_ | refine aw_aloadN (q := 231) dX1_holds_229 rfl rfl ?_ | refine aw_aloadQ (q := 231) dX1_holds_229 rfl rfl ?_
          first | refine aw_aload_n (i := 2) (q := 232) dX1_holds_231 rfl rfl rfl ?_ | refine aw_aloadN_n (i := 2) (q := 232) dX1_holds_231 rfl rfl rfl ?_ | refine aw_aloadQ_n (i := 2) (q := 232) dX1_holds_231 rfl rfl rfl ?_
          refine aw_getfield (q := 235) dX1_holds_232 gf_X1_263_5 (by assumption) rfl rfl ?_
          refine aw_iconst (v := 1) (q := 236) dX1_holds_235 rfl rfl ?_
          refine aw_icmp_ne (tgt := 243) (q := 239) dX1_holds_236 (by decide) rfl (fun _ => ?_) (fun hZ => absurd hZ ((by decide)))
          refine aw_iconst (v := 3) (q := 244) dX1_holds_243 rfl rfl ?_
          refine aw_locals (by exact ⟨rfl, rfl, rfl, rfl, rfl, trivial⟩) (take μ5 (P 4 k 5 * P 0 0 3 / 100) 3 hy (by decide) (if_neg (by decide)).symm (by rw [hg_μ5, hg_μ4, updM_twice, eb 5]))
end ZPL

/-! THE PROGRAMME: holds -/
set_option maxRecDepth 100000
theorem tSumR_at {f f' : Nat → Int32} {s : Nat} {x : Int32} : ∀ n, (∀ j, j < n → j ≠ s → f' j = f j) → (s < n → f' s = f s + x) → tSumR f' n = tSumR f n + (if s < n then x else 0)
  | 0, _, _ => by rw [if_neg (by omega), Int32.add_zero]; rfl
  | n + 1, h, hx => by
    have ih := tSumR_at (f := f) (f' := f') (s := s) (x := x) n (fun j hj => h j (by omega)) (fun q => hx (by omega))
    show tSumR f' n + f' n = tSumR f n + f n + _
    rw [ih]
    by_cases e : n = s
    · subst e
      rw [if_neg (by omega), if_pos (by omega), hx (by omega), Int32.add_zero, Int32.add_assoc]
    · rw [h n (by omega) e]
      by_cases q : s < n
      · rw [if_pos q, if_pos (by omega), Int32.add_assoc, Int32.add_comm x, ← Int32.add_assoc]
      · rw [if_neg q, if_neg (by omega), Int32.add_zero, Int32.add_zero]
theorem tShowsIn_set {P P' : zP} {s : Nat} {st : Int32} (hs : s < pcn P 9) (h9 : pcn P' 9 = pcn P 9) (ho : ∀ j, j ≠ s → P' 3 j 3 = P 3 j 3) (h0 : P 3 s 3 ≠ st) : tShowsIn P' st = tShowsIn P st + (if P' 3 s 3 = st then 1 else 0) := by
  unfold tShowsIn
  rw [h9, tSumR_at (f := fun s => if P 3 s 3 = st then 1 else 0) (s := s) (x := if P' 3 s 3 = st then 1 else 0) (pcn P 9) (fun j _ hj => by dsimp only; rw [ho j hj]) (fun _ => by dsimp only; rw [if_neg h0, Int32.zero_add]), if_pos hs]
theorem zupd_id {c : Nat → Int32} {k : Nat} {v : Int32} (e : v = c k) : upd c k v = c := by
  subst e
  funext j
  by_cases q : j = k
  · subst q; exact pk_us
  · exact pk_un q
theorem zupd_2 {c : Nat → Int32} {k : Nat} {v w : Int32} : upd (upd c k v) k w = upd c k w := by
  funext j
  by_cases q : j = k
  · subst q; rw [pk_us, pk_us]
  · rw [pk_un q, pk_un q, pk_un q]
/-- what a show wore: the order of the writes doesn't matter -/
theorem tWorn_ord {Q : zP} {s k l : Nat} {u v h st : Int32} (eu : u = Q 2 l 1 + tHours Q k l) (eh : h = tHours Q k l) (est : st = if tBreaks Q k l = true then 2 else 1) : updP (updP (updP (updP (updP (updP Q 3 s 4 (nI l)) 2 l 1 u) 2 l 2 v) 3 s 5 h) 3 s 3 st) 2 l 3 (Q 2 l 3 + 1) = updP (tWorn Q s k l) 2 l 2 v := by
  subst eu eh est
  unfold tWorn
  funext x y z
  simp only [updP]
  repeat' split
  all_goals first | rfl | (exfalso; omega)
theorem tWear_eq {Q : zP} {k l : Nat} : zMn (Q 1 k 0) (Q 2 l 0 - Q 2 l 1) = tHours Q k l := by
  unfold zMn tHours tBreaks
  by_cases q : Q 2 l 0 - Q 2 l 1 < Q 1 k 0
  · rw [if_pos q, if_pos (decide_eq_true q)]
  · rw [if_neg q, if_neg (by rw [decide_eq_false q]; decide)]
theorem tBkOk.upd {P : zP} (hB : tBkOk P) {s i j : Nat} {v : Int32} (h0 : s ≠ 0) (h4 : s = 4 → j ≠ 0) : tBkOk (updP P s i j v) := fun b hb => by
  rw [pcn_upd (by omega)] at hb
  have z := hB b hb
  have e : updP P s i j v 4 b 0 = P 4 b 0 := updP_ne (by omega)
  unfold tSh at z ⊢
  rw [e, pcn_upd (by omega)]
  exact z
section ZPM1
variable {G : zG} {μ : zM} {p o : Nat} {P : zP} {A : Nat → Nat → Nat} {c : Nat → Int32}
/-- what holds leaves -/
def zHdP (G : zG) (μ : zM) (p o : Nat) (P : zP) (A : Nat → Nat → Nat) (c : Nat → Int32) (s : Nat) : Option Value → zM → Prop := fun v μ' => v = none ∧ zPR G μ' p o (tHold P tZ s).1 A (upd c 0 (tShowsIn (tHold P tZ s).1 1)) ∧ zKp (zKo o) μ μ'
set_option maxHeartbeats 16000000 in
theorem C_holds {s : Nat} (h : zPR G μ p o P A c) (hO : tOk P) (hB : tBkOk P) (h1 : tOneF P) (hf : tLife P) (hKi : tKi P) (hKL : tKL P) (hle : ∀ k, k < pcn P 7 → 0 < P 1 k 1) (hs : s < pcn P 9) (h0 : P 3 s 3 = 0) (hc : c 0 = tShowsIn P 1) : Meets G 9 MX1_holds [.ref p, .int (nI s)] μ (zHdP G μ p o P A c s) (pcn P 10 + 2) (4 * pcn P 10 + 5) := by
  have hp := h.1
  obtain ⟨ki1, ki2⟩ := hKi s hs
  have s60 : pcn P 9 ≤ 60 := hO.s.2
  have k10 : pcn P 7 ≤ 10 := hO.k.2
  have l12 : pcn P 8 ≤ 12 := hO.l.2
  have hLs := h.lsh
  obtain ⟨_, chLs⟩ := hLs.cell
  have hLk := h.lki
  obtain ⟨_, chLk⟩ := hLk.cell
  have hki := h.ki ki2
  obtain ⟨t, fr, f2, hsh, htm, hfr, hf2⟩ := h.sh hs
  rw [ki1] at hsh
  have hsz : obT 3 s o ≠ zC := obT_nz
  have hpz : pgT 0 o ≠ zC := fun e => by have e1 : 20000 + 0 = 0 := congrArg Prod.fst e; omega
  obtain ⟨n, hn⟩ : ∃ n, pcn P 10 = n := ⟨_, rfl⟩
  obtain ⟨m, hm⟩ : ∃ m, 4 * pcn P 10 = m := ⟨_, rfl⟩
  refine meets_of (by decide +kernel) (Nat.le_of_ble_eq_true rfl) ?_
  refine AW.bud (bc' := (n + 1) + 1) (bs' := (m + 4) + 1) ?_ (by omega) (by omega)
  first | refine aw_aload_n (i := 0) (q := 1) dX1_holds_0 rfl rfl rfl ?_ | refine aw_aloadN_n (i := 0) (q := 1) dX1_holds_0 rfl rfl rfl ?_ | refine aw_aloadQ_n (i := 0) (q := 1) dX1_holds_0 rfl rfl rfl ?_
  refine aw_getfield (q := 4) dX1_holds_1 gf_X1_25_1 (by assumption) rfl rfl ?_
  refine aw_iload_n (i := 1) (q := 5) dX1_holds_4 rfl rfl rfl ?_
  refine aw_callF (q := 10) dX1_holds_5 (C_AL_get hLs hs (by omega)) cf_X1_115_14 (by assumption) rfl rfl (by decide) (by decide) (by first | exact Nat.le_of_ble_eq_true rfl | simp [zcat_rf, Value.category]) rfl (zpk ?_)
  refine aw_cast (q := 13) dX1_holds_10 q535 hsh ca_5_X5 rfl ?_
  first | refine aw_astore_n (i := 2) (q := 14) dX1_holds_13 rfl (by decide) rfl ?_ | refine aw_astoreN_n (i := 2) (q := 14) dX1_holds_13 rfl (by decide) rfl ?_ | refine aw_astoreQ_n (i := 2) (q := 14) dX1_holds_13 rfl (by decide) rfl ?_
  first | refine aw_aload_n (i := 0) (q := 15) dX1_holds_14 rfl rfl rfl ?_ | refine aw_aloadN_n (i := 0) (q := 15) dX1_holds_14 rfl rfl rfl ?_ | refine aw_aloadQ_n (i := 0) (q := 15) dX1_holds_14 rfl rfl rfl ?_
  refine aw_getfield (q := 18) dX1_holds_15 gf_X1_18_1 (by assumption) rfl rfl ?_
  first | refine aw_aload_n (i := 2) (q := 19) dX1_holds_18 rfl rfl rfl ?_ | refine aw_aloadN_n (i := 2) (q := 19) dX1_holds_18 rfl rfl rfl ?_ | refine aw_aloadQ_n (i := 2) (q := 19) dX1_holds_18 rfl rfl rfl ?_
  refine aw_getfield (q := 22) dX1_holds_19 gf_X1_186_5 (by assumption) rfl rfl ?_
  refine aw_callF (q := 27) dX1_holds_22 (C_AL_get hLk ki2 (by omega)) cf_X1_115_14 (by assumption) rfl rfl (by decide) (by decide) (by first | exact Nat.le_of_ble_eq_true rfl | simp [zcat_rf, Value.category]) rfl (zpk ?_)
  refine aw_cast (q := 30) dX1_holds_27 q415 hki ca_3_X3 rfl ?_
  first | refine aw_astore_n (i := 3) (q := 31) dX1_holds_30 rfl (by decide) rfl ?_ | refine aw_astoreN_n (i := 3) (q := 31) dX1_holds_30 rfl (by decide) rfl ?_ | refine aw_astoreQ_n (i := 3) (q := 31) dX1_holds_30 rfl (by decide) rfl ?_
  try simp (config := {decide := true}) only [zput, zdel_q, zdel_f, zdel_t, zdel_nil, zdel_r, zdel_i, zdel_n]
  first | refine aw_aload_n (i := 0) (q := 32) dX1_holds_31 rfl rfl rfl ?_ | refine aw_aloadN_n (i := 0) (q := 32) dX1_holds_31 rfl rfl rfl ?_ | refine aw_aloadQ_n (i := 0) (q := 32) dX1_holds_31 rfl rfl rfl ?_
  first | refine aw_aload_n (i := 3) (q := 33) dX1_holds_32 rfl rfl rfl ?_ | refine aw_aloadN_n (i := 3) (q := 33) dX1_holds_32 rfl rfl rfl ?_ | refine aw_aloadQ_n (i := 3) (q := 33) dX1_holds_32 rfl rfl rfl ?_
  refine aw_callV (q := 36) dX1_holds_33 (C_lampFor h hO h1 hf ki2 (hle _ ki2)) cv_X1_271_1 (by assumption) rfl rfl (by decide) (by decide) (by first | exact Nat.le_of_ble_eq_true rfl | simp [zcat_rf, Value.category]) rfl (fun v33 μ1 hp => ?_)
  obtain ⟨hq, hone, k1, hres⟩ := hp
  rcases hres with ⟨g1, rfl, g3⟩ | ⟨g1, a, l, hl, g4, rfl, g6⟩
  · rw [tLight_no g1] at hq hone
    have eH : tHold P tZ s = tClose (updP P 3 s 3 3) tZ s 4 := by unfold tHold; rw [if_neg (by rw [g1]; decide)]
    have eP : (tHold P tZ s).1 = tLosN (updP P 3 s 3 3) s 1 false (pcn (updP P 3 s 3 3) 10) := by rw [eH]; exact tCloseN_los _
    have e3 : ∀ j, (tHold P tZ s).1 3 j 3 = updP P 3 s 3 3 3 j 3 := fun j => by rw [eP]; exact tLosN_same _ 3 j 3 (by omega)
    have eS : tShowsIn (tHold P tZ s).1 1 = c 0 := by
      rw [tShowsIn_set (P := P) (s := s) hs (by rw [eP, (tLosN_same _).cn, pcn_upd (by omega)]) (fun j hj => by rw [e3, updP_ne (by omega)]) (by rw [h0]; decide), e3, updP_eq, if_neg (by decide), Int32.add_zero, hc]
    have hp1 := hq.1
    obtain ⟨t, fr, f2, hsh1, htm1, hfr1, hf21⟩ := hq.sh hs
    have hsh0 := hsh1
    first | refine aw_astore (q := 38) dX1_holds_36 (by decide) rfl ?_ | refine aw_astoreN (q := 38) dX1_holds_36 (by decide) rfl ?_ | refine aw_astoreQ (q := 38) dX1_holds_36 (by decide) rfl ?_
    try simp (config := {decide := true}) only [zput, zdel_q, zdel_f, zdel_t, zdel_nil, zdel_r, zdel_i, zdel_n]
    first | refine aw_aload (q := 40) dX1_holds_38 rfl rfl ?_ | refine aw_aloadN (q := 40) dX1_holds_38 rfl rfl ?_ | refine aw_aloadQ (q := 40) dX1_holds_38 rfl rfl ?_
    refine aw_callV (q := 43) dX1_holds_40 (C_Opt_isEmptyN g3) cv_X1_275_18 (by assumption) rfl rfl (by decide) (by decide) (by first | exact Nat.le_of_ble_eq_true rfl | simp [zcat_rf, Value.category]) rfl (zpk ?_)
    refine aw_if_eq (tgt := 59) (q := 46) dX1_holds_43 (by decide) rfl (fun hZ => absurd hZ ((by decide))) (fun _ => ?_)
    first | refine aw_aload_n (i := 2) (q := 47) dX1_holds_46 rfl rfl rfl ?_ | refine aw_aloadN_n (i := 2) (q := 47) dX1_holds_46 rfl rfl rfl ?_ | refine aw_aloadQ_n (i := 2) (q := 47) dX1_holds_46 rfl rfl rfl ?_
    refine aw_iconst (v := 3) (q := 48) dX1_holds_47 rfl rfl ?_
    refine aw_putfield (q := 51) dX1_holds_48 gf_X1_263_5 hsh1 (by first | assumption | simp) (by first | rfl | exact znar_rf _ _ | exact zB_nar _) (by first | rfl | exact zfit_rf _ _ | exact zB_fit _) (Nat.le_of_ble_eq_true rfl) rfl (fun μ2 hg_μ2 => ?_)
    have hsh1 : μ2 _ = some _ := hg_μ2 ▸ updM_eq _ _ _
    simp only [List.set] at hsh1 hg_μ2
    obtain ⟨q1, q2⟩ := hq.sset (i := s) (j0 := 3) (v := 3) hO hs hsh0 htm1 hfr1 hf21 hg_μ2 (updP_ne (by omega)) ⟨by decide, by decide⟩ (updP_eq _ _ _ _ _) (updP_ne (by omega)) (updP_ne (by omega)) (updP_ne (by omega))
    have hp2 := q1.1
    have ec2 : pcn (updP P 3 s 3 3) 10 = n := (pcn_upd (by omega)).trans hn
    refine AW.bud (bc' := 0 + (pcn (updP P 3 s 3 3) 10 + 1)) (bs' := 0 + (4 * pcn (updP P 3 s 3 3) 10 + 4)) ?_ (by omega) (by omega)
    first | refine aw_aload_n (i := 0) (q := 52) dX1_holds_51 rfl rfl rfl ?_ | refine aw_aloadN_n (i := 0) (q := 52) dX1_holds_51 rfl rfl rfl ?_ | refine aw_aloadQ_n (i := 0) (q := 52) dX1_holds_51 rfl rfl rfl ?_
    refine aw_iload_n (i := 1) (q := 53) dX1_holds_52 rfl rfl rfl ?_
    refine aw_iconst (v := 1) (q := 54) dX1_holds_53 rfl rfl ?_
    refine aw_iconst (v := 0) (q := 55) dX1_holds_54 rfl rfl ?_
    refine aw_callV (q := 58) dX1_holds_55 (C_losesAll (s := s) (w := 1) (bd := false) q1 (hO.upd (Or.inl (by decide))) (hB.upd (by decide) (fun e => absurd e (by decide))) (by rw [pcn_upd (by omega)]; exact hs) (by decide)) cv_X1_234_1 (by assumption) rfl rfl (by decide) (by decide) (by first | exact Nat.le_of_ble_eq_true rfl | simp [zcat_rf, Value.category]) rfl (fun v55 μ3 hp => ?_)
    obtain ⟨rfl, h3, k3⟩ := hp
    exact aw_return dX1_holds_58 rfl (⟨rfl, by rw [eS, zupd_id rfl, eP]; exact h3, (k1.tr q2).tr k3⟩)
  · obtain ⟨Q, hQ⟩ : ∃ Q, tLight P (P 1 (tKd P s) 1) = Q := ⟨_, rfl⟩
    rw [hQ] at hq hone g4
    have eo : ∀ s' i j, (s' ≠ 2 ∨ j ≠ 2) → Q s' i j = P s' i j := fun s' i j q => by rw [← hQ]; exact tLight_o q
    have ec : ∀ j, pcn Q j = pcn P j := fun j => by rw [← hQ]; exact tLight_cn
    have hOQ : tOk Q := hO.congr (fun j _ _ => eo 0 0 j (Or.inl (by decide)))
    have hBQ : tBkOk Q := fun b hb => by
      rw [ec] at hb
      have z := hB b hb
      unfold tSh at z ⊢
      rw [eo 4 b 0 (Or.inl (by decide)), ec]
      exact z
    have eH : tHold P tZ s = tHoldLit Q tZ s (tKd P s) l := by
      unfold tHold; rw [if_pos g1, hQ, g4, nI_clamp (by omega)]
    obtain ⟨k, hk⟩ : ∃ k, tKd P s = k := ⟨_, rfl⟩
    rw [hk] at eH ki1 ki2 hki hsh
    obtain ⟨w, w1, w2, ew⟩ := hKL.1 k ki2
    obtain ⟨L, u, L1, L2, uL, eL, eu⟩ := hKL.2 l hl
    have eL : Q 2 l 0 = nI L := (eo 2 l 0 (Or.inr (by decide))).trans eL
    have eu : Q 2 l 1 = nI u := (eo 2 l 1 (Or.inr (by decide))).trans eu
    have ew : Q 1 k 0 = nI w := (eo 1 k 0 (Or.inl (by decide))).trans ew
    have hz1 : ∃ z, z ≤ 5000 ∧ zMn (Q 1 k 0) (Q 2 l 0 - Q 2 l 1) = nI z := by
      rw [ew, eL, eu, pk_sub uL]
      unfold zMn
      split
      · exact ⟨L - u, by omega, rfl⟩
      · exact ⟨w, by omega, rfl⟩
    obtain ⟨z, z1, z2⟩ := hz1
    have hfx := C_fitted hq hOQ hone
    rw [g4] at hfx
    have hp1 := hq.1
    have hki1 := hq.ki (i := k) (by rw [ec]; exact ki2)
    obtain ⟨t, fr, f2, hsh1, htm1, hfr1, hf21⟩ := hq.sh (i := s) (by rw [ec]; exact hs)
    have hsh0 := hsh1
    first | refine aw_astore (q := 38) dX1_holds_36 (by decide) rfl ?_ | refine aw_astoreN (q := 38) dX1_holds_36 (by decide) rfl ?_ | refine aw_astoreQ (q := 38) dX1_holds_36 (by decide) rfl ?_
    try simp (config := {decide := true}) only [zput, zdel_q, zdel_f, zdel_t, zdel_nil, zdel_r, zdel_i, zdel_n]
    first | refine aw_aload (q := 40) dX1_holds_38 rfl rfl ?_ | refine aw_aloadN (q := 40) dX1_holds_38 rfl rfl ?_ | refine aw_aloadQ (q := 40) dX1_holds_38 rfl rfl ?_
    refine aw_callV (q := 43) dX1_holds_40 (C_Opt_isEmpty g6) cv_X1_275_18 (by assumption) rfl rfl (by decide) (by decide) (by first | exact Nat.le_of_ble_eq_true rfl | simp [zcat_rf, Value.category]) rfl (zpk ?_)
    refine aw_if_eq (tgt := 59) (q := 46) dX1_holds_43 (by decide) rfl (fun _ => ?_) (fun hZ => absurd (rfl) hZ)
    first | refine aw_aload_n (i := 2) (q := 60) dX1_holds_59 rfl rfl rfl ?_ | refine aw_aloadN_n (i := 2) (q := 60) dX1_holds_59 rfl rfl rfl ?_ | refine aw_aloadQ_n (i := 2) (q := 60) dX1_holds_59 rfl rfl rfl ?_
    first | refine aw_aload_n (i := 0) (q := 61) dX1_holds_60 rfl rfl rfl ?_ | refine aw_aloadN_n (i := 0) (q := 61) dX1_holds_60 rfl rfl rfl ?_ | refine aw_aloadQ_n (i := 0) (q := 61) dX1_holds_60 rfl rfl rfl ?_
    refine aw_callV (q := 64) dX1_holds_61 (hfx) cv_X1_122_1 (by assumption) rfl rfl (by decide) (by decide) (by first | exact Nat.le_of_ble_eq_true rfl | simp [zcat_rf, Value.category]) rfl (zpk ?_)
    refine aw_putfield (q := 67) dX1_holds_64 gf_X1_278_5 hsh1 (by first | assumption | simp) (by first | rfl | exact znar_rf _ _ | exact zB_nar _) (by first | rfl | exact zfit_rf _ _ | exact zB_fit _) (Nat.le_of_ble_eq_true rfl) rfl (fun μ2 hg_μ2 => ?_)
    have g6 : μ2 _ = some _ := hg_μ2 ▸ (updM_ne (zneq g6 hsh1 (by simp))).trans g6
    have hki1 : μ2 _ = some _ := hg_μ2 ▸ (updM_ne (zneq hki1 hsh1 (by simp))).trans hki1
    have hsh1 : μ2 _ = some _ := hg_μ2 ▸ updM_eq _ _ _
    simp only [List.set] at hsh1 hg_μ2
    obtain ⟨q1, q2⟩ := hq.sset (i := s) (j0 := 4) (v := nI l) hOQ (by rw [ec]; exact hs) hsh0 htm1 hfr1 hf21 hg_μ2 (updP_ne (by omega)) ⟨by decide, by decide⟩ (updP_ne (by omega)) (updP_eq _ _ _ _ _) (updP_ne (by omega)) (updP_ne (by omega))
    have hO1 : tOk (updP Q 3 s 4 (nI l)) := hOQ.upd (Or.inl (by decide))
    have ec1 : ∀ j, pcn (updP Q 3 s 4 (nI l)) j = pcn P j := fun j => (pcn_upd (by omega)).trans (ec j)
    have hla := q1.la (i := l) (by rw [ec1]; exact hl)
    have el : ∀ j, updP Q 3 s 4 (nI l) 2 l j = Q 2 l j := fun j => updP_ne (by omega)
    have hlz : obT 2 l o ≠ zC := obT_nz
    first | refine aw_aload_n (i := 2) (q := 68) dX1_holds_67 rfl rfl rfl ?_ | refine aw_aloadN_n (i := 2) (q := 68) dX1_holds_67 rfl rfl rfl ?_ | refine aw_aloadQ_n (i := 2) (q := 68) dX1_holds_67 rfl rfl rfl ?_
    first | refine aw_aload (q := 70) dX1_holds_68 rfl rfl ?_ | refine aw_aloadN (q := 70) dX1_holds_68 rfl rfl ?_ | refine aw_aloadQ (q := 70) dX1_holds_68 rfl rfl ?_
    refine aw_callV (q := 73) dX1_holds_70 (C_Opt_get g6) cv_X1_258_18 (by assumption) rfl rfl (by decide) (by decide) (by first | exact Nat.le_of_ble_eq_true rfl | simp [zcat_rf, Value.category]) rfl (zpk ?_)
    refine aw_cast (q := 76) dX1_holds_73 q512 hla ca_4_X4 rfl ?_
    first | refine aw_aload_n (i := 3) (q := 77) dX1_holds_76 rfl rfl rfl ?_ | refine aw_aloadN_n (i := 3) (q := 77) dX1_holds_76 rfl rfl rfl ?_ | refine aw_aloadQ_n (i := 3) (q := 77) dX1_holds_76 rfl rfl rfl ?_
    refine aw_getfield (q := 80) dX1_holds_77 gf_X1_281_3 (by assumption) rfl rfl ?_
    have hwr := C_Lamp_wear (h := Q 1 k 0) hla hlz (by rw [el, el, z2, eu, nI_toInt (by omega), nI_toInt (by omega)]; omega) (by rw [el, el, z2, eu, nI_toInt (by omega), nI_toInt (by omega)]; omega)
    have hla0 := hla
    refine aw_callV (q := 83) dX1_holds_80 (hwr) cv_X1_284_4 (by assumption) rfl rfl (by decide) (by decide) (by first | exact Nat.le_of_ble_eq_true rfl | simp [zcat_rf, Value.category]) rfl (fun v80 μ3 hp => ?_)
    obtain ⟨rfl, hg3⟩ := hp
    obtain ⟨q3, q4⟩ := q1.lwear hO1 (by rw [ec1]; exact hl) hg3
    have hki3 : μ3 (A 1 k) = _ := hg3 ▸ (updM_ne (zneq hki1 hla0 (by simp))).trans hki1
    rw [el, el, tWear_eq] at q3
    rw [el, el, tWear_eq]
    rw [el] at q3
    obtain ⟨v, hv⟩ : ∃ v, (if Q 2 l 1 + tHours Q k l = Q 2 l 0 then 2 else Q 2 l 2) = v := ⟨_, rfl⟩
    rw [hv] at q3
    obtain ⟨Q3, hQ3⟩ : ∃ Q3, updP (updP (updP Q 3 s 4 (nI l)) 2 l 1 (Q 2 l 1 + tHours Q k l)) 2 l 2 v = Q3 := ⟨_, rfl⟩
    rw [hQ3] at q3
    have ec3 : ∀ j, pcn Q3 j = pcn P j := fun j => by rw [← hQ3, pcn_upd (by omega), pcn_upd (by omega)]; exact ec1 j
    have hO3 : tOk Q3 := by rw [← hQ3]; exact (hO1.upd (Or.inl (by decide))).upd (Or.inl (by decide))
    have hB3 : tBkOk Q3 := by rw [← hQ3]; exact ((hBQ.upd (by decide) (fun e => absurd e (by decide))).upd (by decide) (fun e => absurd e (by decide))).upd (by decide) (fun e => absurd e (by decide))
    obtain ⟨t, fr, f2, hsh3, htm3, hfr3, hf23⟩ := q3.sh (i := s) (by rw [ec3]; exact hs)
    have hsh0 := hsh3
    refine aw_putfield (q := 86) dX1_holds_83 gf_X1_287_5 hsh3 (by first | assumption | simp) (by first | rfl | exact znar_rf _ _ | exact zB_nar _) (by first | rfl | exact zfit_rf _ _ | exact zB_fit _) (Nat.le_of_ble_eq_true rfl) rfl (fun μ4 hg_μ4 => ?_)
    have hki3 : μ4 _ = some _ := hg_μ4 ▸ (updM_ne (zneq hki3 hsh3 (by simp))).trans hki3
    have hsh3 : μ4 _ = some _ := hg_μ4 ▸ updM_eq _ _ _
    simp only [List.set] at hsh3 hg_μ4
    obtain ⟨q5, q6⟩ := q3.sset (i := s) (j0 := 5) (v := tHours Q k l) hO3 (by rw [ec3]; exact hs) hsh0 htm3 hfr3 hf23 hg_μ4 (updP_ne (by omega)) ⟨by decide, by decide⟩ (updP_ne (by omega)) (updP_ne (by omega)) (updP_eq _ _ _ _ _) (updP_ne (by omega))
    obtain ⟨Q5, hQ5⟩ : ∃ Q5, updP Q3 3 s 5 (tHours Q k l) = Q5 := ⟨_, rfl⟩
    rw [hQ5] at q5
    have ec5 : ∀ j, pcn Q5 j = pcn P j := fun j => by rw [← hQ5, pcn_upd (by omega)]; exact ec3 j
    have hO5 : tOk Q5 := by rw [← hQ5]; exact hO3.upd (Or.inl (by decide))
    have hB5 : tBkOk Q5 := by rw [← hQ5]; exact hB3.upd (by decide) (fun e => absurd e (by decide))
    have km : zKp (zKo o) μ μ4 := ((k1.tr q2).tr q4).tr q6
    have fin : ∀ st : Int32, (st = 1 ∨ st = 2) → st = (if tBreaks Q k l = true then 2 else 1) → ∀ L', AW G 9 MX1_holds (zHdP G μ p o P A c s) (n + 1) (m + 4) 103 ((0, .ref p) :: (1, .int (nI s)) :: (2, .ref (A 3 s)) :: L') [.int st, .ref (A 3 s)] μ4 := by
      intro st hst est L'
      have hst4 : st ≠ 4 := by rcases hst with rfl | rfl <;> decide
      refine aw_locals (L' := [(0, .ref p), (1, .int (nI s)), (2, .ref (A 3 s))]) (by exact ⟨rfl, rfl, rfl, trivial⟩) ?_
      obtain ⟨t, fr, f2, hsh5, htm5, hfr5, hf25⟩ := q5.sh (i := s) (by rw [ec5]; exact hs)
      have hsh0 := hsh5
      refine aw_putfield (q := 106) dX1_holds_103 gf_X1_263_5 hsh5 (by first | assumption | simp) (by first | rfl | exact znar_rf _ _ | exact zB_nar _) (by first | rfl | exact zfit_rf _ _ | exact zB_fit _) (Nat.le_of_ble_eq_true rfl) rfl (fun μ5 hg_μ5 => ?_)
      have hsh5 : μ5 _ = some _ := hg_μ5 ▸ updM_eq _ _ _
      simp only [List.set] at hsh5 hg_μ5
      obtain ⟨r1, r2⟩ := q5.sset (i := s) (j0 := 3) (v := st) hO5 (by rw [ec5]; exact hs) hsh0 htm5 hfr5 hf25 hg_μ5 (updP_ne (by omega)) ⟨by decide, by decide⟩ (updP_eq _ _ _ _ _) (updP_ne (by omega)) (updP_ne (by omega)) (updP_ne (by omega))
      obtain ⟨Q6, hQ6⟩ : ∃ Q6, updP Q5 3 s 3 st = Q6 := ⟨_, rfl⟩
      rw [hQ6] at r1
      have ec6 : ∀ j, pcn Q6 j = pcn P j := fun j => by rw [← hQ6, pcn_upd (by omega)]; exact ec5 j
      have hO6 : tOk Q6 := by rw [← hQ6]; exact hO5.upd (Or.inl (by decide))
      have hB6 : tBkOk Q6 := by rw [← hQ6]; exact hB5.upd (by decide) (fun e => absurd e (by decide))
      have e63 : Q6 3 s 3 = st := by rw [← hQ6]; exact updP_eq _ _ _ _ _
      -- the numbers at the end
      have eW : updP Q6 2 l 3 (Q 2 l 3 + 1) = updP (tWorn Q s k l) 2 l 2 v := by
        rw [← hQ6, ← hQ5, ← hQ3]
        exact tWorn_ord rfl rfl est
      have eF : ∀ N, N = pcn P 10 → (tHold P tZ s).1 = updP (tCloseN Q6 tZ s st N).1 2 l 3 (Q 2 l 3 + 1) := by
        intro N hN
        have et2 : ∀ j, (tCloseN (tWorn Q s k l) tZ s st N).1 2 l j = tWorn Q s k l 2 l j := fun j => tCloseN_same N 2 l j (by omega)
        have ew1 : tWorn Q s k l 2 l 1 = Q 2 l 1 + tHours Q k l := by unfold tWorn; rw [updP_ne (by omega), updP_ne (by omega), updP_ne (by omega), updP_ne (by omega), updP_eq]
        have ew0 : tWorn Q s k l 2 l 0 = Q 2 l 0 := by unfold tWorn; rw [updP_ne (by omega), updP_ne (by omega), updP_ne (by omega), updP_ne (by omega), updP_ne (by omega)]
        have ew2 : tWorn Q s k l 2 l 2 = Q 2 l 2 := by unfold tWorn; rw [updP_ne (by omega), updP_ne (by omega), updP_ne (by omega), updP_ne (by omega), updP_ne (by omega)]
        have ewc : pcn (tWorn Q s k l) 10 = N := by
          unfold tWorn
          rw [pcn_upd (by omega), pcn_upd (by omega), pcn_upd (by omega), pcn_upd (by omega), pcn_upd (by omega), ec, hN]
        rw [← tCloseN_lamp hst4, eW, tCloseN_lamp hst4, eH]
        unfold tHoldLit tHeld tClose
        rw [← est, ewc]
        dsimp only
        rw [et2, et2, et2, ew1, ew0, ew2, hv]
      have eS : tShowsIn (tHold P tZ s).1 1 = c 0 + (if st = 1 then 1 else 0) := by
        have e3 : ∀ j, (tHold P tZ s).1 3 j 3 = Q6 3 j 3 := fun j => by rw [eF _ rfl, updP_ne (by omega)]; exact tCloseN_same _ 3 j 3 (by omega)
        have e63o : ∀ j, j ≠ s → Q6 3 j 3 = P 3 j 3 := fun j hj => by
          rw [← hQ6, updP_ne (by omega), ← hQ5, updP_ne (by omega), ← hQ3, updP_ne (by omega), updP_ne (by omega), updP_ne (by omega)]
          exact eo 3 j 3 (Or.inl (by decide))
        rw [tShowsIn_set (P := P) (s := s) hs (by rw [eF _ rfl, pcn_upd (by omega), (tCloseN_same _).cn, ec6]) (fun j hj => by rw [e3, e63o j hj]) (by rw [h0]; decide), e3, e63, hc]
      have rest : ∀ (x : Int32), x = (if st = 1 then 1 else 0) → AW G 9 MX1_holds (zHdP G μ p o P A c s) (n + 1) (m + 4) 124 [(0, .ref p), (1, .int (nI s)), (2, .ref (A 3 s))] [.int x, .int (c 0), .ref p] μ5 := by
        intro x hx
        have hp5 := r1.1
        refine aw_iadd (q := 125) dX1_holds_124 rfl ?_
        refine aw_putfield (q := 128) dX1_holds_125 gf_X1_108_1 hp5 (by first | assumption | simp) (by first | rfl | exact znar_rf _ _ | exact zB_nar _) (by first | rfl | exact zfit_rf _ _ | exact zB_fit _) (Nat.le_of_ble_eq_true rfl) rfl (fun μ6 hg_μ6 => ?_)
        have hp5 : μ6 _ = some _ := hg_μ6 ▸ updM_eq _ _ _
        simp only [List.set] at hp5 hg_μ6
        obtain ⟨r3, r4⟩ := r1.held (v := c 0 + x) hg_μ6
        rw [hx, ← eS] at r3
        have hL6 := r3.lbk
        obtain ⟨_, chL6⟩ := hL6.cell
        have hp6 := r3.1
        first | refine aw_aload_n (i := 0) (q := 129) dX1_holds_128 rfl rfl rfl ?_ | refine aw_aloadN_n (i := 0) (q := 129) dX1_holds_128 rfl rfl rfl ?_ | refine aw_aloadQ_n (i := 0) (q := 129) dX1_holds_128 rfl rfl rfl ?_
        refine aw_getfield (q := 132) dX1_holds_129 gf_X1_28_1 (by assumption) rfl rfl ?_
        refine aw_callF (q := 137) dX1_holds_132 (C_AL_iterator (u := zTI) hL6 zTI_nz) cf_X1_50_14 (by assumption) rfl rfl (by decide) (by decide) (by first | exact Nat.le_of_ble_eq_true rfl | simp [zcat_rf, Value.category]) rfl (fun v132 μ7 hp => ?_)
        obtain ⟨it, rfl, itn, hg7⟩ := hp
        first | refine aw_astore (q := 139) dX1_holds_137 (by decide) rfl ?_ | refine aw_astoreN (q := 139) dX1_holds_137 (by decide) rfl ?_ | refine aw_astoreQ (q := 139) dX1_holds_137 (by decide) rfl ?_
        try simp (config := {decide := true}) only [zput, zdel_q, zdel_f, zdel_t, zdel_nil, zdel_r, zdel_i, zdel_n]
        refine aw_locals (L' := [(0, .ref p), (1, .int (nI s)), (2, .ref (A 3 s)), (5, .ref it)]) (by exact ⟨rfl, rfl, rfl, rfl, trivial⟩) ?_
        have r7 := zF.pr r3 (hg7 ▸ zKp.new itn)
        have hit7 : μ7 it = _ := hg7 ▸ updM_eq _ _ _
        refine AW.bud (hld_loop (μ := μ6) (P := Q6) hst hO6 hB6 (by rw [ec6]; exact hs) e63 (k0 := .null) (l0 := .null) (post := zHdP G μ p o P A c s) (fun μ' g1 g2 => ⟨rfl, ?_, ((km.tr r2).tr r4).tr g2⟩) itn (pcn Q6 10) 0 (-1) μ7 (by omega) r7 (hg7 ▸ zKp.new itn) hit7) (by rw [ec6]; omega) (by rw [ec6]; omega)
        have g3 := g1.l3 (i := l) (v := Q 2 l 3 + 1) ((tCloseN_same _).ok hO6) (by rw [(tCloseN_same _).cn, ec6]; exact hl)
        rw [← eF _ (ec6 10)] at g3
        exact g3
      have hp5 := r1.1
      rcases hst with rfl | rfl
      · skip
        first | refine aw_aload_n (i := 0) (q := 107) dX1_holds_106 rfl rfl rfl ?_ | refine aw_aloadN_n (i := 0) (q := 107) dX1_holds_106 rfl rfl rfl ?_ | refine aw_aloadQ_n (i := 0) (q := 107) dX1_holds_106 rfl rfl rfl ?_
        refine aw_dup (q := 108) dX1_holds_107 (by first | rfl | exact zcat_rf _) rfl ?_
        refine aw_getfield (q := 111) dX1_holds_108 gf_X1_108_1 (by assumption) rfl rfl ?_
        first | refine aw_aload_n (i := 2) (q := 112) dX1_holds_111 rfl rfl rfl ?_ | refine aw_aloadN_n (i := 2) (q := 112) dX1_holds_111 rfl rfl rfl ?_ | refine aw_aloadQ_n (i := 2) (q := 112) dX1_holds_111 rfl rfl rfl ?_
        refine aw_getfield (q := 115) dX1_holds_112 gf_X1_263_5 (by assumption) rfl rfl ?_
        refine aw_iconst (v := 1) (q := 116) dX1_holds_115 rfl rfl ?_
        refine aw_icmp_ne (tgt := 123) (q := 119) dX1_holds_116 (by decide) rfl (fun hZ => absurd (rfl) hZ) (fun _ => ?_)
        refine aw_iconst (v := 1) (q := 120) dX1_holds_119 rfl rfl ?_
        refine aw_goto (tgt := 124) dX1_holds_120 (by decide) ?_
        exact rest 1 rfl
      · skip
        first | refine aw_aload_n (i := 0) (q := 107) dX1_holds_106 rfl rfl rfl ?_ | refine aw_aloadN_n (i := 0) (q := 107) dX1_holds_106 rfl rfl rfl ?_ | refine aw_aloadQ_n (i := 0) (q := 107) dX1_holds_106 rfl rfl rfl ?_
        refine aw_dup (q := 108) dX1_holds_107 (by first | rfl | exact zcat_rf _) rfl ?_
        refine aw_getfield (q := 111) dX1_holds_108 gf_X1_108_1 (by assumption) rfl rfl ?_
        first | refine aw_aload_n (i := 2) (q := 112) dX1_holds_111 rfl rfl rfl ?_ | refine aw_aloadN_n (i := 2) (q := 112) dX1_holds_111 rfl rfl rfl ?_ | refine aw_aloadQ_n (i := 2) (q := 112) dX1_holds_111 rfl rfl rfl ?_
        refine aw_getfield (q := 115) dX1_holds_112 gf_X1_263_5 (by assumption) rfl rfl ?_
        refine aw_iconst (v := 1) (q := 116) dX1_holds_115 rfl rfl ?_
        refine aw_icmp_ne (tgt := 123) (q := 119) dX1_holds_116 (by decide) rfl (fun _ => ?_) (fun hZ => absurd hZ ((by decide)))
        refine aw_iconst (v := 0) (q := 124) dX1_holds_123 rfl rfl ?_
        exact rest 0 (if_neg (by decide)).symm
    first | refine aw_aload_n (i := 2) (q := 87) dX1_holds_86 rfl rfl rfl ?_ | refine aw_aloadN_n (i := 2) (q := 87) dX1_holds_86 rfl rfl rfl ?_ | refine aw_aloadQ_n (i := 2) (q := 87) dX1_holds_86 rfl rfl rfl ?_
    first | refine aw_aload_n (i := 2) (q := 88) dX1_holds_87 rfl rfl rfl ?_ | refine aw_aloadN_n (i := 2) (q := 88) dX1_holds_87 rfl rfl rfl ?_ | refine aw_aloadQ_n (i := 2) (q := 88) dX1_holds_87 rfl rfl rfl ?_
    refine aw_getfield (q := 91) dX1_holds_88 gf_X1_287_5 (by assumption) rfl rfl ?_
    first | refine aw_aload_n (i := 3) (q := 92) dX1_holds_91 rfl rfl rfl ?_ | refine aw_aloadN_n (i := 3) (q := 92) dX1_holds_91 rfl rfl rfl ?_ | refine aw_aloadQ_n (i := 3) (q := 92) dX1_holds_91 rfl rfl rfl ?_
    refine aw_getfield (q := 95) dX1_holds_92 gf_X1_281_3 (by assumption) rfl rfl ?_
    cases hbk : tBreaks Q k l with
    | true =>
      have hb : Q 2 l 0 - Q 2 l 1 < Q 1 k 0 := of_decide_eq_true hbk
      have ehh : tHours Q k l = Q 2 l 0 - Q 2 l 1 := if_pos hbk
      refine aw_icmp_ge (tgt := 102) (q := 98) dX1_holds_95 (by decide) rfl (fun hZ => absurd hZ ((by rw [ehh]; exact Int32.not_le.mpr hb))) (fun _ => ?_)
      refine aw_iconst (v := 2) (q := 99) dX1_holds_98 rfl rfl ?_
      refine aw_goto (tgt := 103) dX1_holds_99 (by decide) ?_
      exact fin 2 (Or.inr rfl) (by rw [hbk]; rfl) _
    | false =>
      have ehh : tHours Q k l = Q 1 k 0 := if_neg (by rw [hbk]; decide)
      refine aw_icmp_ge (tgt := 102) (q := 98) dX1_holds_95 (by decide) rfl (fun _ => ?_) (fun hZ => absurd ((by rw [ehh]; exact Int32.le_refl _)) hZ)
      refine aw_iconst (v := 1) (q := 103) dX1_holds_102 rfl rfl ?_
      exact fin 1 (Or.inl rfl) (by rw [hbk]; rfl) _
end ZPM1

