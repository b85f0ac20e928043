/-! THE TWIN, part 4: writers of the row of numbers -/
set_option maxRecDepth 100000
/-- the show of a booking -/
def tSh (P : zP) (b : Nat) : Nat := (P 4 b 0).toNatClampNeg
/-- every booking is of a show -/
def tBkOk (P : zP) : Prop := ∀ b, b < pcn P 10 → P 4 b 0 = nI (tSh P b) ∧ tSh P b < pcn P 9
abbrev tForD (P : zP) (b p : Nat) : Prop := P 6 p 4 = 0 ∧ P 6 p 0 = P 4 b 2 ∧ P 6 p 1 = P 3 (tSh P b) 0
/-- n promises have been asked: those that booking b counts for have its seats added to their count 'which' -/
def tTallyN (P : zP) (b which n : Nat) : zP := fun s i c => if s = 6 ∧ c = 5 + which ∧ i < n ∧ tForD P b i ∧ P 3 (tSh P b) 1 ≤ P 6 i 3 then P s i c + P 4 b 1 else P s i c
def tTally (P : zP) (b which : Nat) : zP := tTallyN P b which (pcn P 12)
def tMovedN (P : zP) (b : Nat) (frm to : Int32) (n : Nat) : zP := fun s i c => if s = 6 ∧ c = 7 ∧ i < n ∧ tForD P b i ∧ frm ≤ P 6 i 3 ∧ P 6 i 3 < to then P s i c + P 4 b 1 else P s i c
def tMoved (P : zP) (b : Nat) (frm to : Int32) : zP := tMovedN P b frm to (pcn P 12)
def tVacateN (P : zP) (b : Nat) (st rf : Int32) (n : Nat) : zP := fun s i c => if s = 4 ∧ i = b then (if c = 4 then st else if c = 6 then rf else if 8 ≤ c ∧ c < 8 + n then 0 else P s i c) else P s i c
def tVacate (P : zP) (b : Nat) (st rf : Int32) : zP := tVacateN P b st rf 8
theorem tTallyN_lo {P : zP} {b which n s i c : Nat} (h : s ≠ 6 ∨ c < 5) : tTallyN P b which n s i c = P s i c := by
  unfold tTallyN; rw [if_neg (by omega)]
theorem tTallyN_hi {P : zP} {b which n s i c : Nat} (h : n ≤ i) : tTallyN P b which n s i c = P s i c := by
  unfold tTallyN; rw [if_neg (by omega)]
theorem tTallyN_s {P : zP} {b which n : Nat} (h : ¬ (tForD P b n ∧ P 3 (tSh P b) 1 ≤ P 6 n 3)) : tTallyN P b which (n + 1) = tTallyN P b which n := by
  funext s i c
  unfold tTallyN
  by_cases hi : i = n
  · subst hi
    rw [if_neg (by intro q; exact h q.2.2.2), if_neg (by omega)]
  · have e : (i < n + 1) = (i < n) := by apply propext; omega
    simp only [e]
theorem tTallyN_t {P : zP} {b which n : Nat} (h : tForD P b n ∧ P 3 (tSh P b) 1 ≤ P 6 n 3) : updP (tTallyN P b which n) 6 n (5 + which) (P 6 n (5 + which) + P 4 b 1) = tTallyN P b which (n + 1) := by
  funext s i c
  by_cases e : s = 6 ∧ i = n ∧ c = 5 + which
  · obtain ⟨rfl, rfl, rfl⟩ := e
    rw [updP_eq]
    unfold tTallyN
    rw [if_pos ⟨rfl, rfl, by omega, h⟩]
  · rw [updP_ne e]
    unfold tTallyN
    by_cases hi : i = n
    · subst hi
      rw [if_neg (by omega), if_neg (by omega)]
    · have e : (i < n + 1) = (i < n) := by apply propext; omega
      simp only [e]
theorem tMovedN_lo {P : zP} {b n s i c : Nat} {f t : Int32} (h : s ≠ 6 ∨ c < 5) : tMovedN P b f t n s i c = P s i c := by
  unfold tMovedN; rw [if_neg (by omega)]
theorem tMovedN_hi {P : zP} {b n s i c : Nat} {f t : Int32} (h : n ≤ i) : tMovedN P b f t n s i c = P s i c := by
  unfold tMovedN; rw [if_neg (by omega)]
theorem tMovedN_s {P : zP} {b n : Nat} {f t : Int32} (h : ¬ (tForD P b n ∧ f ≤ P 6 n 3 ∧ P 6 n 3 < t)) : tMovedN P b f t (n + 1) = tMovedN P b f t n := by
  funext s i c
  unfold tMovedN
  by_cases hi : i = n
  · subst hi
    rw [if_neg (by intro q; exact h q.2.2.2), if_neg (by omega)]
  · have e : (i < n + 1) = (i < n) := by apply propext; omega
    simp only [e]
theorem tMovedN_t {P : zP} {b n : Nat} {f t : Int32} (h : tForD P b n ∧ f ≤ P 6 n 3 ∧ P 6 n 3 < t) : updP (tMovedN P b f t n) 6 n 7 (P 6 n 7 + P 4 b 1) = tMovedN P b f t (n + 1) := by
  funext s i c
  by_cases e : s = 6 ∧ i = n ∧ c = 7
  · obtain ⟨rfl, rfl, rfl⟩ := e
    rw [updP_eq]
    unfold tMovedN
    rw [if_pos ⟨rfl, rfl, by omega, h⟩]
  · rw [updP_ne e]
    unfold tMovedN
    by_cases hi : i = n
    · subst hi
      rw [if_neg (by omega), if_neg (by omega)]
    · have e : (i < n + 1) = (i < n) := by apply propext; omega
      simp only [e]
section ZTW3
variable {G : zG} {μ : zM} {m : Nat} {lam : Nat → Nat} {K : Nat → Nat → Int32} {P : zP}
/-- a method of the twin that writes the row of numbers alone: what it leaves -/
def tPost (G : zG) (μ : zM) (m : Nat) (lam : Nat → Nat) (K : Nat → Nat → Int32) (P' : zP) (r : Option Value) : Option Value → zM → Prop := fun v μ' => v = r ∧ (∃ n : Nat → Int32, zTP G μ' m lam (setK K 1 n) P') ∧ zKp tTw μ μ'
theorem C2_tally {b w : Nat} {x y : Int32} (hT : zTP G μ m lam K P) (hx : x = nI b) (hy : y = nI w) (hb : b < pcn P 10) (hw : w < 5) (hB : tBkOk P) : Meets G 2 MX2_tally [.ref m, .int x, .int y] μ (tPost G μ m lam K (tTally P b w) none) 0 0 := by
  subst hx hy
  have hm := hT.m
  have h1 := hT.a1
  obtain ⟨hn, hN⟩ := hT.2.2.p
  have hbN := hT.2.2.b.2
  obtain ⟨hs, hsN⟩ := hB b hb
  have hsN' := hT.2.2.s.2
  refine meets_of (by decide +kernel) (Nat.le_of_ble_eq_true rfl) ?_
  first | refine aw_aload_n (i := 0) (q := 1) dX2_tally_0 rfl rfl rfl ?_ | refine aw_aloadN_n (i := 0) (q := 1) dX2_tally_0 rfl rfl rfl ?_ | refine aw_aloadQ_n (i := 0) (q := 1) dX2_tally_0 rfl rfl rfl ?_
  refine aw_iload_n (i := 1) (q := 2) dX2_tally_1 rfl rfl rfl ?_
  refine aw_iconst (v := 0) (q := 3) dX2_tally_2 rfl rfl ?_
  refine aw_callV (q := 6) dX2_tally_3 (C2_ofBooking (c := 0) hT rfl rfl (by omega) (by omega)) cv_X2_88_2 (by assumption) rfl rfl (by decide) (by decide) (by first | exact Nat.le_of_ble_eq_true rfl | simp [zcat_rf, Value.category]) rfl (zpk ?_)
  refine aw_istore_n (i := 3) (q := 7) dX2_tally_6 rfl (by decide) rfl ?_
  refine aw_iconst (v := 0) (q := 8) dX2_tally_7 rfl rfl ?_
  refine aw_istore (q := 10) dX2_tally_8 (by decide) rfl ?_
  have loop : ∀ n e, e + n = pcn P 12 → ∀ (μ1 : zM) (f : Nat → Int32), zTP G μ1 m lam (setK K 1 f) (tTallyN P b w e) → zKp tTw μ μ1 → AW G 2 MX2_tally (tPost G μ m lam K (tTally P b w) none) 0 0 10 [(0, .ref m), (1, .int (nI b)), (2, .int (nI w)), (3, .int (nI (tSh P b))), (4, .int (nI e))] [] μ1 := by
    intro n
    induction n with
    | zero =>
      intro e he μ1 f hT hk
      have hm := hT.m
      have h1 := hT.a1
      refine aw_iload (q := 12) dX2_tally_10 rfl rfl ?_
      first | refine aw_aload_n (i := 0) (q := 13) dX2_tally_12 rfl rfl rfl ?_ | refine aw_aloadN_n (i := 0) (q := 13) dX2_tally_12 rfl rfl rfl ?_ | refine aw_aloadQ_n (i := 0) (q := 13) dX2_tally_12 rfl rfl rfl ?_
      refine aw_getfield (q := 16) dX2_tally_13 gf_X2_7_2 (by assumption) rfl rfl ?_
      refine aw_bipush (v := 12) (q := 18) dX2_tally_16 rfl rfl ?_
      refine aw_iald (q := 19) (v := nI (pcn P 12)) (12) dX2_tally_18 (by assumption) (by first | assumption | (simp only [← nI_add, ← pk_mul]; rfl) | rfl) (by omega) (by omega) ((hT.2.1.g (by omega)).trans ((tTallyN_lo (by omega)).trans hn)) rfl ?_
      refine aw_icmp_ge (tgt := 135) (q := 22) dX2_tally_19 (by decide) rfl (fun _ => ?_) (fun hc => absurd (nI_le (by omega) (by omega)) hc)
      exact aw_return dX2_tally_135 rfl (⟨rfl, ⟨f, by rw [tTally, show pcn P 12 = e by omega]; exact hT⟩, hk⟩)
    | succ n ih =>
      intro e he μ1 f hT hk
      have hm := hT.m
      have h1 := hT.a1
      have hlt : e < pcn P 12 := by omega
      have go : tTallyN P b w (e + 1) = tTallyN P b w e → AW G 2 MX2_tally (tPost G μ m lam K (tTally P b w) none) 0 0 10 [(0, .ref m), (1, .int (nI b)), (2, .int (nI w)), (3, .int (nI (tSh P b))), (4, .int (nI (e + 1)))] [] μ1 := fun h => ih (e + 1) (by omega) μ1 f (h ▸ hT) hk
      refine aw_iload (q := 12) dX2_tally_10 rfl rfl ?_
      first | refine aw_aload_n (i := 0) (q := 13) dX2_tally_12 rfl rfl rfl ?_ | refine aw_aloadN_n (i := 0) (q := 13) dX2_tally_12 rfl rfl rfl ?_ | refine aw_aloadQ_n (i := 0) (q := 13) dX2_tally_12 rfl rfl rfl ?_
      refine aw_getfield (q := 16) dX2_tally_13 gf_X2_7_2 (by assumption) rfl rfl ?_
      refine aw_bipush (v := 12) (q := 18) dX2_tally_16 rfl rfl ?_
      refine aw_iald (q := 19) (v := nI (pcn P 12)) (12) dX2_tally_18 (by assumption) (by first | assumption | (simp only [← nI_add, ← pk_mul]; rfl) | rfl) (by omega) (by omega) ((hT.2.1.g (by omega)).trans ((tTallyN_lo (by omega)).trans hn)) rfl ?_
      refine aw_icmp_ge (tgt := 135) (q := 22) dX2_tally_19 (by decide) rfl (fun hc => absurd hc (nI_ge hlt (by omega))) (fun _ => ?_)
      refine aw_sipush (v := 1860) (q := 25) dX2_tally_22 rfl rfl ?_
      refine aw_bipush (v := 10) (q := 27) dX2_tally_25 rfl rfl ?_
      refine aw_iload (q := 29) dX2_tally_27 rfl rfl ?_
      refine aw_imul (q := 30) dX2_tally_29 rfl ?_
      refine aw_iadd (q := 31) dX2_tally_30 rfl ?_
      refine aw_istore (q := 33) dX2_tally_31 (by decide) rfl ?_
      first | refine aw_aload_n (i := 0) (q := 34) dX2_tally_33 rfl rfl rfl ?_ | refine aw_aloadN_n (i := 0) (q := 34) dX2_tally_33 rfl rfl rfl ?_ | refine aw_aloadQ_n (i := 0) (q := 34) dX2_tally_33 rfl rfl rfl ?_
      refine aw_getfield (q := 37) dX2_tally_34 gf_X2_7_2 (by assumption) rfl rfl ?_
      refine aw_iload (q := 39) dX2_tally_37 rfl rfl ?_
      refine aw_iconst (v := 4) (q := 40) dX2_tally_39 rfl rfl ?_
      refine aw_iadd (q := 41) dX2_tally_40 rfl ?_
      refine aw_iald (q := 42) (v := P 6 e 4) (1860 + 10 * e + 4) dX2_tally_41 (by assumption) (by first | assumption | (simp only [← nI_add, ← pk_mul]; rfl) | rfl) (by omega) (by omega) ((hT.2.1.pr (by omega) (by omega)).trans (tTallyN_lo (by omega))) rfl ?_
      refine aw_if_ne (tgt := 83) (q := 45) dX2_tally_42 (by decide) rfl (fun ha => ?_) (fun ha => ?_)
      · refine aw_iconst (v := 0) (q := 84) dX2_tally_83 rfl rfl ?_
        refine aw_istore (q := 86) dX2_tally_84 (by decide) rfl ?_
        refine aw_iload (q := 88) dX2_tally_86 rfl rfl ?_
        refine aw_if_eq (tgt := 129) (q := 91) dX2_tally_88 (by decide) rfl (fun _ => ?_) (fun hc => absurd (rfl) hc)
        refine aw_iinc (q := 132) dX2_tally_129 rfl (by first | exact nI_1 _ | rfl) (by decide) rfl ?_
        refine aw_goto (tgt := 10) dX2_tally_132 (by decide) ?_
        exact aw_locals (by exact ⟨rfl, rfl, rfl, rfl, rfl, trivial⟩) (go (tTallyN_s (fun h => ha h.1.1)))
      · first | refine aw_aload_n (i := 0) (q := 46) dX2_tally_45 rfl rfl rfl ?_ | refine aw_aloadN_n (i := 0) (q := 46) dX2_tally_45 rfl rfl rfl ?_ | refine aw_aloadQ_n (i := 0) (q := 46) dX2_tally_45 rfl rfl rfl ?_
        refine aw_getfield (q := 49) dX2_tally_46 gf_X2_7_2 (by assumption) rfl rfl ?_
        refine aw_iload (q := 51) dX2_tally_49 rfl rfl ?_
        refine aw_iald (q := 52) (v := P 6 e 0) (1860 + 10 * e) dX2_tally_51 (by assumption) (by first | assumption | (simp only [← nI_add, ← pk_mul]; rfl) | rfl) (by omega) (by omega) ((hT.2.1.pr (c := 0) (by omega) (by omega)).trans (tTallyN_lo (by omega))) rfl ?_
        first | refine aw_aload_n (i := 0) (q := 53) dX2_tally_52 rfl rfl rfl ?_ | refine aw_aloadN_n (i := 0) (q := 53) dX2_tally_52 rfl rfl rfl ?_ | refine aw_aloadQ_n (i := 0) (q := 53) dX2_tally_52 rfl rfl rfl ?_
        refine aw_iload_n (i := 1) (q := 54) dX2_tally_53 rfl rfl rfl ?_
        refine aw_iconst (v := 2) (q := 55) dX2_tally_54 rfl rfl ?_
        refine aw_callV (q := 58) dX2_tally_55 (C2_ofBooking (s := b) (c := 2) hT rfl rfl (by omega) (by omega)) cv_X2_88_2 (by assumption) rfl rfl (by decide) (by decide) (by first | exact Nat.le_of_ble_eq_true rfl | simp [zcat_rf, Value.category]) rfl (zpk ?_)
        refine aw_icmp_ne (tgt := 83) (q := 61) dX2_tally_58 (by decide) rfl (fun hb2 => ?_) (fun hb2 => ?_)
        · refine aw_iconst (v := 0) (q := 84) dX2_tally_83 rfl rfl ?_
          refine aw_istore (q := 86) dX2_tally_84 (by decide) rfl ?_
          refine aw_iload (q := 88) dX2_tally_86 rfl rfl ?_
          refine aw_if_eq (tgt := 129) (q := 91) dX2_tally_88 (by decide) rfl (fun _ => ?_) (fun hc => absurd (rfl) hc)
          refine aw_iinc (q := 132) dX2_tally_129 rfl (by first | exact nI_1 _ | rfl) (by decide) rfl ?_
          refine aw_goto (tgt := 10) dX2_tally_132 (by decide) ?_
          exact aw_locals (by exact ⟨rfl, rfl, rfl, rfl, rfl, trivial⟩) (go (tTallyN_s (fun h => hb2 (h.1.2.1.trans (tTallyN_lo (by omega)).symm))))
        · first | refine aw_aload_n (i := 0) (q := 62) dX2_tally_61 rfl rfl rfl ?_ | refine aw_aloadN_n (i := 0) (q := 62) dX2_tally_61 rfl rfl rfl ?_ | refine aw_aloadQ_n (i := 0) (q := 62) dX2_tally_61 rfl rfl rfl ?_
          refine aw_getfield (q := 65) dX2_tally_62 gf_X2_7_2 (by assumption) rfl rfl ?_
          refine aw_iload (q := 67) dX2_tally_65 rfl rfl ?_
          refine aw_iconst (v := 1) (q := 68) dX2_tally_67 rfl rfl ?_
          refine aw_iadd (q := 69) dX2_tally_68 rfl ?_
          refine aw_iald (q := 70) (v := P 6 e 1) (1860 + 10 * e + 1) dX2_tally_69 (by assumption) (by first | assumption | (simp only [← nI_add, ← pk_mul]; rfl) | rfl) (by omega) (by omega) ((hT.2.1.pr (by omega) (by omega)).trans (tTallyN_lo (by omega))) rfl ?_
          first | refine aw_aload_n (i := 0) (q := 71) dX2_tally_70 rfl rfl rfl ?_ | refine aw_aloadN_n (i := 0) (q := 71) dX2_tally_70 rfl rfl rfl ?_ | refine aw_aloadQ_n (i := 0) (q := 71) dX2_tally_70 rfl rfl rfl ?_
          refine aw_iload_n (i := 3) (q := 72) dX2_tally_71 rfl rfl rfl ?_
          refine aw_iconst (v := 0) (q := 73) dX2_tally_72 rfl rfl ?_
          refine aw_callV (q := 76) dX2_tally_73 (C2_ofShow (s := tSh P b) (c := 0) hT rfl rfl (by omega) (by omega)) cv_X2_75_2 (by assumption) rfl rfl (by decide) (by decide) (by first | exact Nat.le_of_ble_eq_true rfl | simp [zcat_rf, Value.category]) rfl (zpk ?_)
          refine aw_icmp_ne (tgt := 83) (q := 79) dX2_tally_76 (by decide) rfl (fun hc => ?_) (fun hc => ?_)
          · refine aw_iconst (v := 0) (q := 84) dX2_tally_83 rfl rfl ?_
            refine aw_istore (q := 86) dX2_tally_84 (by decide) rfl ?_
            refine aw_iload (q := 88) dX2_tally_86 rfl rfl ?_
            refine aw_if_eq (tgt := 129) (q := 91) dX2_tally_88 (by decide) rfl (fun _ => ?_) (fun hc => absurd (rfl) hc)
            refine aw_iinc (q := 132) dX2_tally_129 rfl (by first | exact nI_1 _ | rfl) (by decide) rfl ?_
            refine aw_goto (tgt := 10) dX2_tally_132 (by decide) ?_
            exact aw_locals (by exact ⟨rfl, rfl, rfl, rfl, rfl, trivial⟩) (go (tTallyN_s (fun h => hc (h.1.2.2.trans (tTallyN_lo (by omega)).symm))))
          · refine aw_iconst (v := 1) (q := 80) dX2_tally_79 rfl rfl ?_
            refine aw_goto (tgt := 84) dX2_tally_80 (by decide) ?_
            refine aw_istore (q := 86) dX2_tally_84 (by decide) rfl ?_
            refine aw_iload (q := 88) dX2_tally_86 rfl rfl ?_
            have hF : tForD P b e := ⟨ha, hb2.trans (tTallyN_lo (by omega)), hc.trans (tTallyN_lo (by omega))⟩
            refine aw_if_eq (tgt := 129) (q := 91) dX2_tally_88 (by decide) rfl (fun hc => absurd hc ((by decide))) (fun _ => ?_)
            first | refine aw_aload_n (i := 0) (q := 92) dX2_tally_91 rfl rfl rfl ?_ | refine aw_aloadN_n (i := 0) (q := 92) dX2_tally_91 rfl rfl rfl ?_ | refine aw_aloadQ_n (i := 0) (q := 92) dX2_tally_91 rfl rfl rfl ?_
            refine aw_iload_n (i := 3) (q := 93) dX2_tally_92 rfl rfl rfl ?_
            refine aw_iconst (v := 1) (q := 94) dX2_tally_93 rfl rfl ?_
            refine aw_callV (q := 97) dX2_tally_94 (C2_ofShow (s := tSh P b) (c := 1) hT rfl rfl (by omega) (by omega)) cv_X2_75_2 (by assumption) rfl rfl (by decide) (by decide) (by first | exact Nat.le_of_ble_eq_true rfl | simp [zcat_rf, Value.category]) rfl (zpk ?_)
            first | refine aw_aload_n (i := 0) (q := 98) dX2_tally_97 rfl rfl rfl ?_ | refine aw_aloadN_n (i := 0) (q := 98) dX2_tally_97 rfl rfl rfl ?_ | refine aw_aloadQ_n (i := 0) (q := 98) dX2_tally_97 rfl rfl rfl ?_
            refine aw_getfield (q := 101) dX2_tally_98 gf_X2_7_2 (by assumption) rfl rfl ?_
            refine aw_iload (q := 103) dX2_tally_101 rfl rfl ?_
            refine aw_iconst (v := 3) (q := 104) dX2_tally_103 rfl rfl ?_
            refine aw_iadd (q := 105) dX2_tally_104 rfl ?_
            refine aw_iald (q := 106) (v := P 6 e 3) (1860 + 10 * e + 3) dX2_tally_105 (by assumption) (by first | assumption | (simp only [← nI_add, ← pk_mul]; rfl) | rfl) (by omega) (by omega) ((hT.2.1.pr (by omega) (by omega)).trans (tTallyN_lo (by omega))) rfl ?_
            refine aw_icmp_gt (tgt := 129) (q := 109) dX2_tally_106 (by decide) rfl (fun hd => ?_) (fun hd => ?_)
            · refine aw_iinc (q := 132) dX2_tally_129 rfl (by first | exact nI_1 _ | rfl) (by decide) rfl ?_
              refine aw_goto (tgt := 10) dX2_tally_132 (by decide) ?_
              exact aw_locals (by exact ⟨rfl, rfl, rfl, rfl, rfl, trivial⟩) (go (tTallyN_s (fun h => absurd h.2 (Int32.not_le.mpr (by rw [tTallyN_lo (by omega)] at hd; exact hd)))))
            · first | refine aw_aload_n (i := 0) (q := 110) dX2_tally_109 rfl rfl rfl ?_ | refine aw_aloadN_n (i := 0) (q := 110) dX2_tally_109 rfl rfl rfl ?_ | refine aw_aloadQ_n (i := 0) (q := 110) dX2_tally_109 rfl rfl rfl ?_
              refine aw_getfield (q := 113) dX2_tally_110 gf_X2_7_2 (by assumption) rfl rfl ?_
              refine aw_iload (q := 115) dX2_tally_113 rfl rfl ?_
              refine aw_iconst (v := 5) (q := 116) dX2_tally_115 rfl rfl ?_
              refine aw_iadd (q := 117) dX2_tally_116 rfl ?_
              refine aw_iload_n (i := 2) (q := 118) dX2_tally_117 rfl rfl rfl ?_
              refine aw_iadd (q := 119) dX2_tally_118 rfl ?_
              refine aw_dup2 (q := 120) dX2_tally_119 (by first | rfl | exact zcat_rf _) (by first | rfl | exact zcat_rf _) rfl ?_
              have hF2 : tForD P b e ∧ P 3 (tSh P b) 1 ≤ P 6 e 3 := ⟨hF, by rw [tTallyN_lo (by omega)] at hd; exact Int32.not_lt.mp hd⟩
              refine aw_iald (q := 121) (v := P 6 e (5 + w)) (1860 + 10 * e + 5 + w) dX2_tally_120 (by assumption) (by first | assumption | (simp only [← nI_add, ← pk_mul]; rfl) | rfl) (by omega) (by omega) (by rw [show 1860 + 10 * e + 5 + w = 1860 + 10 * e + (5 + w) by omega]; exact (hT.2.1.pr (by omega) (by omega)).trans (tTallyN_hi (Nat.le_refl _))) rfl ?_
              first | refine aw_aload_n (i := 0) (q := 122) dX2_tally_121 rfl rfl rfl ?_ | refine aw_aloadN_n (i := 0) (q := 122) dX2_tally_121 rfl rfl rfl ?_ | refine aw_aloadQ_n (i := 0) (q := 122) dX2_tally_121 rfl rfl rfl ?_
              refine aw_iload_n (i := 1) (q := 123) dX2_tally_122 rfl rfl rfl ?_
              refine aw_iconst (v := 1) (q := 124) dX2_tally_123 rfl rfl ?_
              refine aw_callV (q := 127) dX2_tally_124 (C2_ofBooking (s := b) (c := 1) hT rfl rfl (by omega) (by omega)) cv_X2_88_2 (by assumption) rfl rfl (by decide) (by decide) (by first | exact Nat.le_of_ble_eq_true rfl | simp [zcat_rf, Value.category]) rfl (zpk ?_)
              refine aw_iadd (q := 128) dX2_tally_127 rfl ?_
              refine aw_iast (q := 129) (1860 + 10 * e + 5 + w) dX2_tally_128 h1 (by first | assumption | simp) (by first | assumption | (simp only [← nI_add, ← pk_mul]; rfl) | rfl) (by omega) (by omega) rfl (fun μ2 hg_μ2 => ?_)
              have h1 : μ2 _ = some _ := hg_μ2 ▸ updM_eq _ _ _
              rw [tTallyN_lo (by omega)] at hg_μ2
              obtain ⟨hT2, hk2⟩ := hT.st (s := 6) (i := e) (c := 5 + w) (by omega) (show e < 12 by omega) (show 5 + w < 10 by omega) (show 1860 + 10 * e + (5 + w) = 1860 + 10 * e + 5 + w by omega) hg_μ2 (hT.2.2.upd (by omega))
              rw [setK_twice, tTallyN_t hF2] at hT2
              refine aw_iinc (q := 132) dX2_tally_129 rfl (by first | exact nI_1 _ | rfl) (by decide) rfl ?_
              refine aw_goto (tgt := 10) dX2_tally_132 (by decide) ?_
              exact aw_locals (by exact ⟨rfl, rfl, rfl, rfl, rfl, trivial⟩) (ih (e + 1) (by omega) μ2 _ hT2 (hk.tr hk2))
  rw [hs]
  exact aw_locals (by exact ⟨rfl, rfl, rfl, rfl, rfl, trivial⟩) (loop (pcn P 12) 0 (by omega) μ (K 1) (by rw [setK_self]; rw [show tTallyN P b w 0 = P by funext s i c; exact tTallyN_hi (Nat.zero_le _)]; exact hT) zKp.rf)
end ZTW3
