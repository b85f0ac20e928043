/-! THE TWIN, part 5: tallyMoved, vacate, lose, firstFree, putIn, layFree, nextRow -/
set_option maxRecDepth 100000
theorem tVacateN_s {P : zP} {b n : Nat} {st rf : Int32} : updP (tVacateN P b st rf n) 4 b (8 + n) 0 = tVacateN P b st rf (n + 1) := by
  funext s i c
  by_cases e : s = 4 ∧ i = b ∧ c = 8 + n
  · obtain ⟨rfl, rfl, rfl⟩ := e
    rw [updP_eq]
    unfold tVacateN
    rw [if_pos ⟨rfl, rfl⟩, if_neg (by omega), if_neg (by omega), if_pos (by omega)]
  · rw [updP_ne e]
    unfold tVacateN
    by_cases hi : s = 4 ∧ i = b
    · rw [if_pos hi, if_pos hi]
      by_cases h4 : c = 4
      · rw [if_pos h4, if_pos h4]
      · rw [if_neg h4, if_neg h4]
        by_cases h6 : c = 6
        · rw [if_pos h6, if_pos h6]
        · rw [if_neg h6, if_neg h6]
          have e : (8 ≤ c ∧ c < 8 + (n + 1)) = (8 ≤ c ∧ c < 8 + n) := by apply propext; omega
          simp only [e]
    · rw [if_neg hi, if_neg hi]
theorem tVacateN_0 {P : zP} {b : Nat} {st rf : Int32} : updP (updP P 4 b 4 st) 4 b 6 rf = tVacateN P b st rf 0 := by
  funext s i c
  unfold tVacateN
  by_cases hi : s = 4 ∧ i = b
  · obtain ⟨rfl, rfl⟩ := hi
    rw [if_pos ⟨rfl, rfl⟩]
    by_cases h6 : c = 6
    · subst h6; rw [updP_eq, if_neg (by omega), if_pos rfl]
    · rw [updP_ne (by omega)]
      by_cases h4 : c = 4
      · subst h4; rw [updP_eq, if_pos rfl]
      · rw [updP_ne (by omega), if_neg h4, if_neg h6, if_neg (by omega)]
  · rw [if_neg hi, updP_ne (by omega), updP_ne (by omega)]
theorem tVacateN_o {P : zP} {b n s i c : Nat} {st rf : Int32} (h : s ≠ 4) : tVacateN P b st rf n s i c = P s i c := by
  unfold tVacateN; rw [if_neg (by omega)]
abbrev tFreeT (P : zP) (t : Nat) : Prop := tIsFree P (nI (t / 6)) (nI (t % 6))
theorem zdiv6 {e : Nat} (h : e < 2 ^ 31) : (nI e / 6 : Int32) = nI (e / 6) := pk_div (d := 6) h (by decide) (by decide)
theorem zrem6 {e : Nat} (h : e < 2 ^ 31) : (nI e - nI e / 6 * 6 : Int32) = nI (e % 6) := pk_rem (d := 6) h (by decide) (by decide)
theorem zlt {a b : Nat} (h : nI a < nI b) (ha : a < 2 ^ 31) (hb : b < 2 ^ 31) : a < b := (nI_ltI ha hb).mp h
theorem tFitted_lt {P : zP} : ∀ n, tFitted P n = -6 ∨ ∃ l, l < n ∧ tFitted P n = nI l ∧ P 2 l 2 = 1
  | 0 => Or.inl rfl
  | n + 1 => by
    unfold tFitted
    by_cases h : P 2 n 2 = 1
    · rw [if_pos h]; exact Or.inr ⟨n, by omega, rfl, h⟩
    · rw [if_neg h]
      rcases tFitted_lt n with q | ⟨l, h1, h2, h3⟩
      · exact Or.inl q
      · exact Or.inr ⟨l, by omega, h2, h3⟩
section ZTW4
variable {G : zG} {μ : zM} {m : Nat} {lam : Nat → Nat} {K : Nat → Nat → Int32} {P : zP}
theorem C2_tallyMoved {b : Nat} {x f t : Int32} (hT : zTP G μ m lam K P) (hx : x = nI b) (hb : b < pcn P 10) (hB : tBkOk P) : Meets G 2 MX2_tallyMoved [.ref m, .int x, .int f, .int t] μ (tPost G μ m lam K (tMoved P b f t) none) 0 0 := by
  subst hx
  have hm := hT.m
  have h1 := hT.a1
  obtain ⟨hn, hN⟩ := hT.2.2.p
  have hbN := hT.2.2.b.2
  obtain ⟨hs, hsN⟩ := hB b hb
  have hsN' := hT.2.2.s.2
  refine meets_of (by decide +kernel) (Nat.le_of_ble_eq_true rfl) ?_
  refine aw_iconst (v := 0) (q := 1) dX2_tallyMoved_0 rfl rfl ?_
  refine aw_istore (q := 3) dX2_tallyMoved_1 (by decide) rfl ?_
  have loop : ∀ n e, e + n = pcn P 12 → ∀ (μ1 : zM) (f1 : Nat → Int32), zTP G μ1 m lam (setK K 1 f1) (tMovedN P b f t e) → zKp tTw μ μ1 → AW G 2 MX2_tallyMoved (tPost G μ m lam K (tMoved P b f t) none) 0 0 3 [(0, .ref m), (1, .int (nI b)), (2, .int f), (3, .int t), (4, .int (nI e))] [] μ1 := by
    intro n
    induction n with
    | zero =>
      intro e he μ1 f1 hT hk
      have hm := hT.m
      have h1 := hT.a1
      refine aw_iload (q := 5) dX2_tallyMoved_3 rfl rfl ?_
      first | refine aw_aload_n (i := 0) (q := 6) dX2_tallyMoved_5 rfl rfl rfl ?_ | refine aw_aloadN_n (i := 0) (q := 6) dX2_tallyMoved_5 rfl rfl rfl ?_ | refine aw_aloadQ_n (i := 0) (q := 6) dX2_tallyMoved_5 rfl rfl rfl ?_
      refine aw_getfield (q := 9) dX2_tallyMoved_6 gf_X2_7_2 (by assumption) rfl rfl ?_
      refine aw_bipush (v := 12) (q := 11) dX2_tallyMoved_9 rfl rfl ?_
      refine aw_iald (q := 12) (v := nI (pcn P 12)) (12) dX2_tallyMoved_11 (by assumption) (by first | assumption | (simp only [← nI_add, ← pk_mul]; rfl) | rfl) (by omega) (by omega) ((hT.2.1.g (by omega)).trans ((tMovedN_lo (by omega)).trans hn)) rfl ?_
      refine aw_icmp_ge (tgt := 140) (q := 15) dX2_tallyMoved_12 (by decide) rfl (fun _ => ?_) (fun hc => absurd (nI_le (by omega) (by omega)) hc)
      exact aw_return dX2_tallyMoved_140 rfl (⟨rfl, ⟨f1, by rw [tMoved, show pcn P 12 = e by omega]; exact hT⟩, hk⟩)
    | succ n ih =>
      intro e he μ1 f1 hT hk
      have hm := hT.m
      have h1 := hT.a1
      have hlt : e < pcn P 12 := by omega
      have go : tMovedN P b f t (e + 1) = tMovedN P b f t e → AW G 2 MX2_tallyMoved (tPost G μ m lam K (tMoved P b f t) none) 0 0 3 [(0, .ref m), (1, .int (nI b)), (2, .int f), (3, .int t), (4, .int (nI (e + 1)))] [] μ1 := fun h => ih (e + 1) (by omega) μ1 f1 (h ▸ hT) hk
      refine aw_iload (q := 5) dX2_tallyMoved_3 rfl rfl ?_
      first | refine aw_aload_n (i := 0) (q := 6) dX2_tallyMoved_5 rfl rfl rfl ?_ | refine aw_aloadN_n (i := 0) (q := 6) dX2_tallyMoved_5 rfl rfl rfl ?_ | refine aw_aloadQ_n (i := 0) (q := 6) dX2_tallyMoved_5 rfl rfl rfl ?_
      refine aw_getfield (q := 9) dX2_tallyMoved_6 gf_X2_7_2 (by assumption) rfl rfl ?_
      refine aw_bipush (v := 12) (q := 11) dX2_tallyMoved_9 rfl rfl ?_
      refine aw_iald (q := 12) (v := nI (pcn P 12)) (12) dX2_tallyMoved_11 (by assumption) (by first | assumption | (simp only [← nI_add, ← pk_mul]; rfl) | rfl) (by omega) (by omega) ((hT.2.1.g (by omega)).trans ((tMovedN_lo (by omega)).trans hn)) rfl ?_
      refine aw_icmp_ge (tgt := 140) (q := 15) dX2_tallyMoved_12 (by decide) rfl (fun hc => absurd hc (nI_ge hlt (by omega))) (fun _ => ?_)
      refine aw_sipush (v := 1860) (q := 18) dX2_tallyMoved_15 rfl rfl ?_
      refine aw_bipush (v := 10) (q := 20) dX2_tallyMoved_18 rfl rfl ?_
      refine aw_iload (q := 22) dX2_tallyMoved_20 rfl rfl ?_
      refine aw_imul (q := 23) dX2_tallyMoved_22 rfl ?_
      refine aw_iadd (q := 24) dX2_tallyMoved_23 rfl ?_
      refine aw_istore (q := 26) dX2_tallyMoved_24 (by decide) rfl ?_
      first | refine aw_aload_n (i := 0) (q := 27) dX2_tallyMoved_26 rfl rfl rfl ?_ | refine aw_aloadN_n (i := 0) (q := 27) dX2_tallyMoved_26 rfl rfl rfl ?_ | refine aw_aloadQ_n (i := 0) (q := 27) dX2_tallyMoved_26 rfl rfl rfl ?_
      refine aw_getfield (q := 30) dX2_tallyMoved_27 gf_X2_7_2 (by assumption) rfl rfl ?_
      refine aw_iload (q := 32) dX2_tallyMoved_30 rfl rfl ?_
      refine aw_iconst (v := 4) (q := 33) dX2_tallyMoved_32 rfl rfl ?_
      refine aw_iadd (q := 34) dX2_tallyMoved_33 rfl ?_
      refine aw_iald (q := 35) (v := P 6 e 4) (1860 + 10 * e + 4) dX2_tallyMoved_34 (by assumption) (by first | assumption | (simp only [← nI_add, ← pk_mul]; rfl) | rfl) (by omega) (by omega) ((hT.2.1.pr (by omega) (by omega)).trans (tMovedN_lo (by omega))) rfl ?_
      refine aw_if_ne (tgt := 81) (q := 38) dX2_tallyMoved_35 (by decide) rfl (fun ha => ?_) (fun ha => ?_)
      · refine aw_iconst (v := 0) (q := 82) dX2_tallyMoved_81 rfl rfl ?_
        refine aw_istore (q := 84) dX2_tallyMoved_82 (by decide) rfl ?_
        refine aw_iload (q := 86) dX2_tallyMoved_84 rfl rfl ?_
        refine aw_if_eq (tgt := 134) (q := 89) dX2_tallyMoved_86 (by decide) rfl (fun _ => ?_) (fun hc => absurd (rfl) hc)
        refine aw_iinc (q := 137) dX2_tallyMoved_134 rfl (by first | exact nI_1 _ | rfl) (by decide) rfl ?_
        refine aw_goto (tgt := 3) dX2_tallyMoved_137 (by decide) ?_
        exact aw_locals (by exact ⟨rfl, rfl, rfl, rfl, rfl, trivial⟩) (go (tMovedN_s (fun h => ha h.1.1)))
      · first | refine aw_aload_n (i := 0) (q := 39) dX2_tallyMoved_38 rfl rfl rfl ?_ | refine aw_aloadN_n (i := 0) (q := 39) dX2_tallyMoved_38 rfl rfl rfl ?_ | refine aw_aloadQ_n (i := 0) (q := 39) dX2_tallyMoved_38 rfl rfl rfl ?_
        refine aw_getfield (q := 42) dX2_tallyMoved_39 gf_X2_7_2 (by assumption) rfl rfl ?_
        refine aw_iload (q := 44) dX2_tallyMoved_42 rfl rfl ?_
        refine aw_iald (q := 45) (v := P 6 e 0) (1860 + 10 * e) dX2_tallyMoved_44 (by assumption) (by first | assumption | (simp only [← nI_add, ← pk_mul]; rfl) | rfl) (by omega) (by omega) ((hT.2.1.pr (c := 0) (by omega) (by omega)).trans (tMovedN_lo (by omega))) rfl ?_
        first | refine aw_aload_n (i := 0) (q := 46) dX2_tallyMoved_45 rfl rfl rfl ?_ | refine aw_aloadN_n (i := 0) (q := 46) dX2_tallyMoved_45 rfl rfl rfl ?_ | refine aw_aloadQ_n (i := 0) (q := 46) dX2_tallyMoved_45 rfl rfl rfl ?_
        refine aw_iload_n (i := 1) (q := 47) dX2_tallyMoved_46 rfl rfl rfl ?_
        refine aw_iconst (v := 2) (q := 48) dX2_tallyMoved_47 rfl rfl ?_
        refine aw_callV (q := 51) dX2_tallyMoved_48 (C2_ofBooking (s := b) (c := 2) hT rfl rfl (by omega) (by omega)) cv_X2_88_2 (by assumption) rfl rfl (by decide) (by decide) (by first | exact Nat.le_of_ble_eq_true rfl | simp [zcat_rf, Value.category]) rfl (zpk ?_)
        refine aw_icmp_ne (tgt := 81) (q := 54) dX2_tallyMoved_51 (by decide) rfl (fun hb2 => ?_) (fun hb2 => ?_)
        · refine aw_iconst (v := 0) (q := 82) dX2_tallyMoved_81 rfl rfl ?_
          refine aw_istore (q := 84) dX2_tallyMoved_82 (by decide) rfl ?_
          refine aw_iload (q := 86) dX2_tallyMoved_84 rfl rfl ?_
          refine aw_if_eq (tgt := 134) (q := 89) dX2_tallyMoved_86 (by decide) rfl (fun _ => ?_) (fun hc => absurd (rfl) hc)
          refine aw_iinc (q := 137) dX2_tallyMoved_134 rfl (by first | exact nI_1 _ | rfl) (by decide) rfl ?_
          refine aw_goto (tgt := 3) dX2_tallyMoved_137 (by decide) ?_
          exact aw_locals (by exact ⟨rfl, rfl, rfl, rfl, rfl, trivial⟩) (go (tMovedN_s (fun h => hb2 (h.1.2.1.trans (tMovedN_lo (by omega)).symm))))
        · first | refine aw_aload_n (i := 0) (q := 55) dX2_tallyMoved_54 rfl rfl rfl ?_ | refine aw_aloadN_n (i := 0) (q := 55) dX2_tallyMoved_54 rfl rfl rfl ?_ | refine aw_aloadQ_n (i := 0) (q := 55) dX2_tallyMoved_54 rfl rfl rfl ?_
          refine aw_getfield (q := 58) dX2_tallyMoved_55 gf_X2_7_2 (by assumption) rfl rfl ?_
          refine aw_iload (q := 60) dX2_tallyMoved_58 rfl rfl ?_
          refine aw_iconst (v := 1) (q := 61) dX2_tallyMoved_60 rfl rfl ?_
          refine aw_iadd (q := 62) dX2_tallyMoved_61 rfl ?_
          refine aw_iald (q := 63) (v := P 6 e 1) (1860 + 10 * e + 1) dX2_tallyMoved_62 (by assumption) (by first | assumption | (simp only [← nI_add, ← pk_mul]; rfl) | rfl) (by omega) (by omega) ((hT.2.1.pr (by omega) (by omega)).trans (tMovedN_lo (by omega))) rfl ?_
          first | refine aw_aload_n (i := 0) (q := 64) dX2_tallyMoved_63 rfl rfl rfl ?_ | refine aw_aloadN_n (i := 0) (q := 64) dX2_tallyMoved_63 rfl rfl rfl ?_ | refine aw_aloadQ_n (i := 0) (q := 64) dX2_tallyMoved_63 rfl rfl rfl ?_
          first | refine aw_aload_n (i := 0) (q := 65) dX2_tallyMoved_64 rfl rfl rfl ?_ | refine aw_aloadN_n (i := 0) (q := 65) dX2_tallyMoved_64 rfl rfl rfl ?_ | refine aw_aloadQ_n (i := 0) (q := 65) dX2_tallyMoved_64 rfl rfl rfl ?_
          refine aw_iload_n (i := 1) (q := 66) dX2_tallyMoved_65 rfl rfl rfl ?_
          refine aw_iconst (v := 0) (q := 67) dX2_tallyMoved_66 rfl rfl ?_
          refine aw_callV (q := 70) dX2_tallyMoved_67 (C2_ofBooking (s := b) (c := 0) hT rfl rfl (by omega) (by omega)) cv_X2_88_2 (by assumption) rfl rfl (by decide) (by decide) (by first | exact Nat.le_of_ble_eq_true rfl | simp [zcat_rf, Value.category]) rfl (zpk ?_)
          rw [tMovedN_lo (by omega), hs]
          refine aw_iconst (v := 0) (q := 71) dX2_tallyMoved_70 rfl rfl ?_
          refine aw_callV (q := 74) dX2_tallyMoved_71 (C2_ofShow (s := tSh P b) (c := 0) hT rfl rfl (by omega) (by omega)) cv_X2_75_2 (by assumption) rfl rfl (by decide) (by decide) (by first | exact Nat.le_of_ble_eq_true rfl | simp [zcat_rf, Value.category]) rfl (zpk ?_)
          refine aw_icmp_ne (tgt := 81) (q := 77) dX2_tallyMoved_74 (by decide) rfl (fun hc => ?_) (fun hc => ?_)
          · refine aw_iconst (v := 0) (q := 82) dX2_tallyMoved_81 rfl rfl ?_
            refine aw_istore (q := 84) dX2_tallyMoved_82 (by decide) rfl ?_
            refine aw_iload (q := 86) dX2_tallyMoved_84 rfl rfl ?_
            refine aw_if_eq (tgt := 134) (q := 89) dX2_tallyMoved_86 (by decide) rfl (fun _ => ?_) (fun hc => absurd (rfl) hc)
            refine aw_iinc (q := 137) dX2_tallyMoved_134 rfl (by first | exact nI_1 _ | rfl) (by decide) rfl ?_
            refine aw_goto (tgt := 3) dX2_tallyMoved_137 (by decide) ?_
            exact aw_locals (by exact ⟨rfl, rfl, rfl, rfl, rfl, trivial⟩) (go (tMovedN_s (fun h => hc (h.1.2.2.trans (tMovedN_lo (by omega)).symm))))
          · refine aw_iconst (v := 1) (q := 78) dX2_tallyMoved_77 rfl rfl ?_
            refine aw_goto (tgt := 82) dX2_tallyMoved_78 (by decide) ?_
            refine aw_istore (q := 84) dX2_tallyMoved_82 (by decide) rfl ?_
            refine aw_iload (q := 86) dX2_tallyMoved_84 rfl rfl ?_
            have hF : tForD P b e := ⟨ha, hb2.trans (tMovedN_lo (by omega)), hc.trans (tMovedN_lo (by omega))⟩
            refine aw_if_eq (tgt := 134) (q := 89) dX2_tallyMoved_86 (by decide) rfl (fun hc => absurd hc ((by decide))) (fun _ => ?_)
            refine aw_iload_n (i := 2) (q := 90) dX2_tallyMoved_89 rfl rfl rfl ?_
            first | refine aw_aload_n (i := 0) (q := 91) dX2_tallyMoved_90 rfl rfl rfl ?_ | refine aw_aloadN_n (i := 0) (q := 91) dX2_tallyMoved_90 rfl rfl rfl ?_ | refine aw_aloadQ_n (i := 0) (q := 91) dX2_tallyMoved_90 rfl rfl rfl ?_
            refine aw_getfield (q := 94) dX2_tallyMoved_91 gf_X2_7_2 (by assumption) rfl rfl ?_
            refine aw_iload (q := 96) dX2_tallyMoved_94 rfl rfl ?_
            refine aw_iconst (v := 3) (q := 97) dX2_tallyMoved_96 rfl rfl ?_
            refine aw_iadd (q := 98) dX2_tallyMoved_97 rfl ?_
            refine aw_iald (q := 99) (v := P 6 e 3) (1860 + 10 * e + 3) dX2_tallyMoved_98 (by assumption) (by first | assumption | (simp only [← nI_add, ← pk_mul]; rfl) | rfl) (by omega) (by omega) ((hT.2.1.pr (by omega) (by omega)).trans (tMovedN_lo (by omega))) rfl ?_
            refine aw_icmp_gt (tgt := 134) (q := 102) dX2_tallyMoved_99 (by decide) rfl (fun hd => ?_) (fun hd => ?_)
            · refine aw_iinc (q := 137) dX2_tallyMoved_134 rfl (by first | exact nI_1 _ | rfl) (by decide) rfl ?_
              refine aw_goto (tgt := 3) dX2_tallyMoved_137 (by decide) ?_
              exact aw_locals (by exact ⟨rfl, rfl, rfl, rfl, rfl, trivial⟩) (go (tMovedN_s (fun h => absurd h.2.1 (Int32.not_le.mpr hd))))
            · refine aw_iload_n (i := 3) (q := 103) dX2_tallyMoved_102 rfl rfl rfl ?_
              first | refine aw_aload_n (i := 0) (q := 104) dX2_tallyMoved_103 rfl rfl rfl ?_ | refine aw_aloadN_n (i := 0) (q := 104) dX2_tallyMoved_103 rfl rfl rfl ?_ | refine aw_aloadQ_n (i := 0) (q := 104) dX2_tallyMoved_103 rfl rfl rfl ?_
              refine aw_getfield (q := 107) dX2_tallyMoved_104 gf_X2_7_2 (by assumption) rfl rfl ?_
              refine aw_iload (q := 109) dX2_tallyMoved_107 rfl rfl ?_
              refine aw_iconst (v := 3) (q := 110) dX2_tallyMoved_109 rfl rfl ?_
              refine aw_iadd (q := 111) dX2_tallyMoved_110 rfl ?_
              refine aw_iald (q := 112) (v := P 6 e 3) (1860 + 10 * e + 3) dX2_tallyMoved_111 (by assumption) (by first | assumption | (simp only [← nI_add, ← pk_mul]; rfl) | rfl) (by omega) (by omega) ((hT.2.1.pr (by omega) (by omega)).trans (tMovedN_lo (by omega))) rfl ?_
              refine aw_icmp_le (tgt := 134) (q := 115) dX2_tallyMoved_112 (by decide) rfl (fun hd2 => ?_) (fun hd2 => ?_)
              · refine aw_iinc (q := 137) dX2_tallyMoved_134 rfl (by first | exact nI_1 _ | rfl) (by decide) rfl ?_
                refine aw_goto (tgt := 3) dX2_tallyMoved_137 (by decide) ?_
                exact aw_locals (by exact ⟨rfl, rfl, rfl, rfl, rfl, trivial⟩) (go (tMovedN_s (fun h => absurd h.2.2 (Int32.not_lt.mpr hd2))))
              · first | refine aw_aload_n (i := 0) (q := 116) dX2_tallyMoved_115 rfl rfl rfl ?_ | refine aw_aloadN_n (i := 0) (q := 116) dX2_tallyMoved_115 rfl rfl rfl ?_ | refine aw_aloadQ_n (i := 0) (q := 116) dX2_tallyMoved_115 rfl rfl rfl ?_
                refine aw_getfield (q := 119) dX2_tallyMoved_116 gf_X2_7_2 (by assumption) rfl rfl ?_
                refine aw_iload (q := 121) dX2_tallyMoved_119 rfl rfl ?_
                refine aw_bipush (v := 7) (q := 123) dX2_tallyMoved_121 rfl rfl ?_
                refine aw_iadd (q := 124) dX2_tallyMoved_123 rfl ?_
                refine aw_dup2 (q := 125) dX2_tallyMoved_124 (by first | rfl | exact zcat_rf _) (by first | rfl | exact zcat_rf _) rfl ?_
                have hF2 : tForD P b e ∧ f ≤ P 6 e 3 ∧ P 6 e 3 < t := ⟨hF, Int32.not_lt.mp hd, Int32.not_le.mp hd2⟩
                refine aw_iald (q := 126) (v := P 6 e 7) (1860 + 10 * e + 7) dX2_tallyMoved_125 (by assumption) (by first | assumption | (simp only [← nI_add, ← pk_mul]; rfl) | rfl) (by omega) (by omega) ((hT.2.1.pr (by omega) (by omega)).trans (tMovedN_hi (Nat.le_refl _))) rfl ?_
                first | refine aw_aload_n (i := 0) (q := 127) dX2_tallyMoved_126 rfl rfl rfl ?_ | refine aw_aloadN_n (i := 0) (q := 127) dX2_tallyMoved_126 rfl rfl rfl ?_ | refine aw_aloadQ_n (i := 0) (q := 127) dX2_tallyMoved_126 rfl rfl rfl ?_
                refine aw_iload_n (i := 1) (q := 128) dX2_tallyMoved_127 rfl rfl rfl ?_
                refine aw_iconst (v := 1) (q := 129) dX2_tallyMoved_128 rfl rfl ?_
                refine aw_callV (q := 132) dX2_tallyMoved_129 (C2_ofBooking (s := b) (c := 1) hT rfl rfl (by omega) (by omega)) cv_X2_88_2 (by assumption) rfl rfl (by decide) (by decide) (by first | exact Nat.le_of_ble_eq_true rfl | simp [zcat_rf, Value.category]) rfl (zpk ?_)
                refine aw_iadd (q := 133) dX2_tallyMoved_132 rfl ?_
                refine aw_iast (q := 134) (1860 + 10 * e + 7) dX2_tallyMoved_133 h1 (by first | assumption | simp) (by first | assumption | (simp only [← nI_add, ← pk_mul]; rfl) | rfl) (by omega) (by omega) rfl (fun μ2 hg_μ2 => ?_)
                have h1 : μ2 _ = some _ := hg_μ2 ▸ updM_eq _ _ _
                rw [tMovedN_lo (by omega)] at hg_μ2
                obtain ⟨hT2, hk2⟩ := hT.st (s := 6) (i := e) (c := 7) (by omega) (show e < 12 by omega) (show 7 < 10 by omega) (show 1860 + 10 * e + 7 = 1860 + 10 * e + 7 by omega) hg_μ2 (hT.2.2.upd (by omega))
                rw [setK_twice, tMovedN_t hF2] at hT2
                refine aw_iinc (q := 137) dX2_tallyMoved_134 rfl (by first | exact nI_1 _ | rfl) (by decide) rfl ?_
                refine aw_goto (tgt := 3) dX2_tallyMoved_137 (by decide) ?_
                exact aw_locals (by exact ⟨rfl, rfl, rfl, rfl, rfl, trivial⟩) (ih (e + 1) (by omega) μ2 _ hT2 (hk.tr hk2))
  exact aw_locals (by exact ⟨rfl, rfl, rfl, rfl, rfl, trivial⟩) (loop (pcn P 12) 0 (by omega) μ (K 1) (by rw [setK_self]; rw [show tMovedN P b f t 0 = P by funext s i c; exact tMovedN_hi (Nat.zero_le _)]; exact hT) zKp.rf)
theorem C2_vacate {b : Nat} {x st rf : Int32} (hT : zTP G μ m lam K P) (hx : x = nI b) (hb : b < 80) : Meets G 1 MX2_vacate [.ref m, .int x, .int st, .int rf] μ (tPost G μ m lam K (tVacate P b st rf) none) 0 0 := by
  subst hx
  have hm := hT.m
  have h1 := hT.a1
  refine meets_of (by decide +kernel) (Nat.le_of_ble_eq_true rfl) ?_
  refine aw_sipush (v := 520) (q := 3) dX2_vacate_0 rfl rfl ?_
  refine aw_bipush (v := 16) (q := 5) dX2_vacate_3 rfl rfl ?_
  refine aw_iload_n (i := 1) (q := 6) dX2_vacate_5 rfl rfl rfl ?_
  refine aw_imul (q := 7) dX2_vacate_6 rfl ?_
  refine aw_iadd (q := 8) dX2_vacate_7 rfl ?_
  refine aw_istore (q := 10) dX2_vacate_8 (by decide) rfl ?_
  first | refine aw_aload_n (i := 0) (q := 11) dX2_vacate_10 rfl rfl rfl ?_ | refine aw_aloadN_n (i := 0) (q := 11) dX2_vacate_10 rfl rfl rfl ?_ | refine aw_aloadQ_n (i := 0) (q := 11) dX2_vacate_10 rfl rfl rfl ?_
  refine aw_getfield (q := 14) dX2_vacate_11 gf_X2_7_2 (by assumption) rfl rfl ?_
  refine aw_iload (q := 16) dX2_vacate_14 rfl rfl ?_
  refine aw_iconst (v := 4) (q := 17) dX2_vacate_16 rfl rfl ?_
  refine aw_iadd (q := 18) dX2_vacate_17 rfl ?_
  refine aw_iload_n (i := 2) (q := 19) dX2_vacate_18 rfl rfl rfl ?_
  refine aw_iast (q := 20) (520 + 16 * b + 4) dX2_vacate_19 h1 (by first | assumption | simp) (by first | assumption | (simp only [← nI_add, ← pk_mul]; rfl) | rfl) (by omega) (by omega) rfl (fun μ1 hg_μ1 => ?_)
  have h1 : μ1 _ = some _ := hg_μ1 ▸ updM_eq _ _ _
  obtain ⟨hT1, hk1⟩ := hT.st (s := 4) (i := b) (c := 4) (by omega) hb (show 4 < 16 by omega) rfl hg_μ1 (hT.2.2.upd (by omega))
  have hm := hT1.m
  have h1 := hT1.a1
  first | refine aw_aload_n (i := 0) (q := 21) dX2_vacate_20 rfl rfl rfl ?_ | refine aw_aloadN_n (i := 0) (q := 21) dX2_vacate_20 rfl rfl rfl ?_ | refine aw_aloadQ_n (i := 0) (q := 21) dX2_vacate_20 rfl rfl rfl ?_
  refine aw_getfield (q := 24) dX2_vacate_21 gf_X2_7_2 (by assumption) rfl rfl ?_
  refine aw_iload (q := 26) dX2_vacate_24 rfl rfl ?_
  refine aw_bipush (v := 6) (q := 28) dX2_vacate_26 rfl rfl ?_
  refine aw_iadd (q := 29) dX2_vacate_28 rfl ?_
  refine aw_iload_n (i := 3) (q := 30) dX2_vacate_29 rfl rfl rfl ?_
  refine aw_iast (q := 31) (520 + 16 * b + 6) dX2_vacate_30 h1 (by first | assumption | simp) (by first | assumption | (simp only [← nI_add, ← pk_mul]; rfl) | rfl) (by omega) (by omega) rfl (fun μ2 hg_μ2 => ?_)
  have h1 : μ2 _ = some _ := hg_μ2 ▸ updM_eq _ _ _
  obtain ⟨hT2, hk2⟩ := hT1.st (s := 4) (i := b) (c := 6) (by omega) hb (show 6 < 16 by omega) rfl hg_μ2 (hT1.2.2.upd (by omega))
  rw [setK_twice, tVacateN_0] at hT2
  refine aw_iconst (v := 0) (q := 32) dX2_vacate_31 rfl rfl ?_
  refine aw_istore (q := 34) dX2_vacate_32 (by decide) rfl ?_
  have loop : ∀ n e, e + n = 8 → ∀ (μ1 : zM) (f1 : Nat → Int32), zTP G μ1 m lam (setK K 1 f1) (tVacateN P b st rf e) → zKp tTw μ μ1 → AW G 1 MX2_vacate (tPost G μ m lam K (tVacate P b st rf) none) 0 0 34 [(0, .ref m), (4, .int (520 + 16 * nI b)), (5, .int (nI e))] [] μ1 := by
    intro n
    induction n with
    | zero =>
      intro e he μ1 f1 hT hk
      refine aw_iload (q := 36) dX2_vacate_34 rfl rfl ?_
      refine aw_bipush (v := 8) (q := 38) dX2_vacate_36 rfl rfl ?_
      refine aw_icmp_ge (tgt := 61) (q := 41) dX2_vacate_38 (by decide) rfl (fun _ => ?_) (fun hc => absurd (nI_le (a := 8) (by omega) (by omega)) hc)
      exact aw_return dX2_vacate_61 rfl (⟨rfl, ⟨f1, by rw [tVacate, show 8 = e by omega]; exact hT⟩, hk⟩)
    | succ n ih =>
      intro e he μ1 f1 hT hk
      have hm := hT.m
      have h1 := hT.a1
      refine aw_iload (q := 36) dX2_vacate_34 rfl rfl ?_
      refine aw_bipush (v := 8) (q := 38) dX2_vacate_36 rfl rfl ?_
      refine aw_icmp_ge (tgt := 61) (q := 41) dX2_vacate_38 (by decide) rfl (fun hc => absurd hc (nI_ge (b := 8) (a := e) (by omega) (by omega))) (fun _ => ?_)
      first | refine aw_aload_n (i := 0) (q := 42) dX2_vacate_41 rfl rfl rfl ?_ | refine aw_aloadN_n (i := 0) (q := 42) dX2_vacate_41 rfl rfl rfl ?_ | refine aw_aloadQ_n (i := 0) (q := 42) dX2_vacate_41 rfl rfl rfl ?_
      refine aw_getfield (q := 45) dX2_vacate_42 gf_X2_7_2 (by assumption) rfl rfl ?_
      refine aw_iload (q := 47) dX2_vacate_45 rfl rfl ?_
      refine aw_bipush (v := 8) (q := 49) dX2_vacate_47 rfl rfl ?_
      refine aw_iadd (q := 50) dX2_vacate_49 rfl ?_
      refine aw_iload (q := 52) dX2_vacate_50 rfl rfl ?_
      refine aw_iadd (q := 53) dX2_vacate_52 rfl ?_
      refine aw_iconst (v := 0) (q := 54) dX2_vacate_53 rfl rfl ?_
      refine aw_iast (q := 55) (520 + 16 * b + 8 + e) dX2_vacate_54 h1 (by first | assumption | simp) (by first | assumption | (simp only [← nI_add, ← pk_mul]; rfl) | rfl) (by omega) (by omega) rfl (fun μ2 hg_μ2 => ?_)
      have h1 : μ2 _ = some _ := hg_μ2 ▸ updM_eq _ _ _
      obtain ⟨hT2, hk2⟩ := hT.st (s := 4) (i := b) (c := 8 + e) (by omega) hb (show 8 + e < 16 by omega) (show 520 + 16 * b + (8 + e) = 520 + 16 * b + 8 + e by omega) hg_μ2 (hT.2.2.upd (by omega))
      rw [setK_twice, tVacateN_s] at hT2
      refine aw_iinc (q := 58) dX2_vacate_55 rfl (by first | exact nI_1 _ | rfl) (by decide) rfl ?_
      refine aw_goto (tgt := 34) dX2_vacate_58 (by decide) ?_
      exact aw_locals (by exact ⟨rfl, rfl, rfl, trivial⟩) (ih (e + 1) (by omega) μ2 _ hT2 (hk.tr hk2))
  exact aw_locals (by exact ⟨rfl, rfl, rfl, trivial⟩) (loop 8 0 (by omega) μ2 _ hT2 (hk1.tr hk2))
/-- what lose leaves in the row of numbers -/
def tLose (P : zP) (b which : Nat) : zP := tVacate (tTally P b which) b 4 (P 4 b 5)
theorem tTally_o {P : zP} {b which s i c : Nat} (h : s ≠ 6 ∨ c < 5) : tTally P b which s i c = P s i c := tTallyN_lo h
/-- a method that writes the row of numbers and did -/
def tPost8 (G : zG) (μ : zM) (m : Nat) (lam : Nat → Nat) (K : Nat → Nat → Int32) (P' : zP) (D : Nat → Int32) (r : Option Value) : Option Value → zM → Prop := fun v μ' => v = r ∧ (∃ n : Nat → Int32, zTP G μ' m lam (setK (setK K 8 D) 1 n) P') ∧ zKp tTw μ μ'
theorem C2_lose {b w : Nat} {x y : Int32} (hT : zTP G μ m lam K P) (hx : x = nI b) (hy : y = nI w) (hb : b < pcn P 10) (hw : w < 5) (hB : tBkOk P) : Meets G 3 MX2_lose [.ref m, .int x, .int y] μ (tPost8 G μ m lam K (tLose P b w) (upd (upd (K 8) 2 (K 8 2 + P 4 b 1)) 3 (K 8 3 + P 4 b 5)) none) 0 0 := by
  subst hx hy
  have hm := hT.m
  have h8 := hT.a8
  have hbN := hT.2.2.b.2
  refine meets_of (by decide +kernel) (Nat.le_of_ble_eq_true rfl) ?_
  first | refine aw_aload_n (i := 0) (q := 1) dX2_lose_0 rfl rfl rfl ?_ | refine aw_aloadN_n (i := 0) (q := 1) dX2_lose_0 rfl rfl rfl ?_ | refine aw_aloadQ_n (i := 0) (q := 1) dX2_lose_0 rfl rfl rfl ?_
  refine aw_getfield (q := 4) dX2_lose_1 gf_X2_32_2 (by assumption) rfl rfl ?_
  refine aw_iconst (v := 2) (q := 5) dX2_lose_4 rfl rfl ?_
  refine aw_dup2 (q := 6) dX2_lose_5 (by first | rfl | exact zcat_rf _) (by first | rfl | exact zcat_rf _) rfl ?_
  refine aw_iald (q := 7) (2) dX2_lose_6 (by assumption) (by first | assumption | (simp only [← nI_add, ← pk_mul]; rfl) | rfl) (by omega) (by omega) rfl rfl ?_
  first | refine aw_aload_n (i := 0) (q := 8) dX2_lose_7 rfl rfl rfl ?_ | refine aw_aloadN_n (i := 0) (q := 8) dX2_lose_7 rfl rfl rfl ?_ | refine aw_aloadQ_n (i := 0) (q := 8) dX2_lose_7 rfl rfl rfl ?_
  refine aw_iload_n (i := 1) (q := 9) dX2_lose_8 rfl rfl rfl ?_
  refine aw_iconst (v := 1) (q := 10) dX2_lose_9 rfl rfl ?_
  refine aw_callV (q := 13) dX2_lose_10 (C2_ofBooking (c := 1) hT rfl rfl (by omega) (by omega)) cv_X2_88_2 (by assumption) rfl rfl (by decide) (by decide) (by first | exact Nat.le_of_ble_eq_true rfl | simp [zcat_rf, Value.category]) rfl (zpk ?_)
  refine aw_iadd (q := 14) dX2_lose_13 rfl ?_
  refine aw_iast (q := 15) (2) dX2_lose_14 h8 (by first | assumption | simp) (by first | assumption | (simp only [← nI_add, ← pk_mul]; rfl) | rfl) (by omega) (by omega) rfl (fun μ1 hg_μ1 => ?_)
  have h8 : μ1 _ = some _ := hg_μ1 ▸ updM_eq _ _ _
  obtain ⟨hW1, hk1⟩ := hT.1.st8 hg_μ1
  have hT1 := hT.other hW1 (setK_ne (by decide))
  have hm := hT1.m
  have h8 := hT1.a8
  first | refine aw_aload_n (i := 0) (q := 16) dX2_lose_15 rfl rfl rfl ?_ | refine aw_aloadN_n (i := 0) (q := 16) dX2_lose_15 rfl rfl rfl ?_ | refine aw_aloadQ_n (i := 0) (q := 16) dX2_lose_15 rfl rfl rfl ?_
  refine aw_getfield (q := 19) dX2_lose_16 gf_X2_32_2 (by assumption) rfl rfl ?_
  refine aw_iconst (v := 3) (q := 20) dX2_lose_19 rfl rfl ?_
  refine aw_dup2 (q := 21) dX2_lose_20 (by first | rfl | exact zcat_rf _) (by first | rfl | exact zcat_rf _) rfl ?_
  refine aw_iald (q := 22) (v := K 8 3) (3) dX2_lose_21 (by assumption) (by first | assumption | (simp only [← nI_add, ← pk_mul]; rfl) | rfl) (by omega) (by omega) (by rw [setK_eq]; exact pk_un (by decide)) rfl ?_
  first | refine aw_aload_n (i := 0) (q := 23) dX2_lose_22 rfl rfl rfl ?_ | refine aw_aloadN_n (i := 0) (q := 23) dX2_lose_22 rfl rfl rfl ?_ | refine aw_aloadQ_n (i := 0) (q := 23) dX2_lose_22 rfl rfl rfl ?_
  refine aw_iload_n (i := 1) (q := 24) dX2_lose_23 rfl rfl rfl ?_
  refine aw_iconst (v := 5) (q := 25) dX2_lose_24 rfl rfl ?_
  refine aw_callV (q := 28) dX2_lose_25 (C2_ofBooking (c := 5) hT1 rfl rfl (by omega) (by omega)) cv_X2_88_2 (by assumption) rfl rfl (by decide) (by decide) (by first | exact Nat.le_of_ble_eq_true rfl | simp [zcat_rf, Value.category]) rfl (zpk ?_)
  refine aw_iadd (q := 29) dX2_lose_28 rfl ?_
  refine aw_iast (q := 30) (3) dX2_lose_29 h8 (by first | assumption | simp) (by first | assumption | (simp only [← nI_add, ← pk_mul]; rfl) | rfl) (by omega) (by omega) rfl (fun μ2 hg_μ2 => ?_)
  have h8 : μ2 _ = some _ := hg_μ2 ▸ updM_eq _ _ _
  obtain ⟨hW2, hk2⟩ := hT1.1.st8 hg_μ2
  have hT2 := hT1.other hW2 (setK_ne (by decide))
  rw [setK_twice, setK_eq] at hT2
  have hm := hT2.m
  first | refine aw_aload_n (i := 0) (q := 31) dX2_lose_30 rfl rfl rfl ?_ | refine aw_aloadN_n (i := 0) (q := 31) dX2_lose_30 rfl rfl rfl ?_ | refine aw_aloadQ_n (i := 0) (q := 31) dX2_lose_30 rfl rfl rfl ?_
  refine aw_iload_n (i := 1) (q := 32) dX2_lose_31 rfl rfl rfl ?_
  refine aw_iload_n (i := 2) (q := 33) dX2_lose_32 rfl rfl rfl ?_
  refine aw_callV (q := 36) dX2_lose_33 (C2_tally hT2 rfl rfl hb hw hB) cv_X2_113_2 (by assumption) rfl rfl (by decide) (by decide) (by first | exact Nat.le_of_ble_eq_true rfl | simp [zcat_rf, Value.category]) rfl (fun v33 μ3 hp => ?_)
  obtain ⟨rfl, ⟨n3, hT3⟩, hk3⟩ := hp
  have hm := hT3.m
  first | refine aw_aload_n (i := 0) (q := 37) dX2_lose_36 rfl rfl rfl ?_ | refine aw_aloadN_n (i := 0) (q := 37) dX2_lose_36 rfl rfl rfl ?_ | refine aw_aloadQ_n (i := 0) (q := 37) dX2_lose_36 rfl rfl rfl ?_
  refine aw_iload_n (i := 1) (q := 38) dX2_lose_37 rfl rfl rfl ?_
  refine aw_iconst (v := 4) (q := 39) dX2_lose_38 rfl rfl ?_
  first | refine aw_aload_n (i := 0) (q := 40) dX2_lose_39 rfl rfl rfl ?_ | refine aw_aloadN_n (i := 0) (q := 40) dX2_lose_39 rfl rfl rfl ?_ | refine aw_aloadQ_n (i := 0) (q := 40) dX2_lose_39 rfl rfl rfl ?_
  refine aw_iload_n (i := 1) (q := 41) dX2_lose_40 rfl rfl rfl ?_
  refine aw_iconst (v := 5) (q := 42) dX2_lose_41 rfl rfl ?_
  refine aw_callV (q := 45) dX2_lose_42 (C2_ofBooking (s := b) (c := 5) hT3 rfl rfl (by omega) (by omega)) cv_X2_88_2 (by assumption) rfl rfl (by decide) (by decide) (by first | exact Nat.le_of_ble_eq_true rfl | simp [zcat_rf, Value.category]) rfl (zpk ?_)
  rw [tTally_o (by omega)]
  refine aw_callV (q := 48) dX2_lose_45 (C2_vacate hT3 rfl (by omega)) cv_X2_117_2 (by assumption) rfl rfl (by decide) (by decide) (by first | exact Nat.le_of_ble_eq_true rfl | simp [zcat_rf, Value.category]) rfl (fun v45 μ4 hp => ?_)
  obtain ⟨rfl, ⟨n4, hT4⟩, hk4⟩ := hp
  rw [setK_twice] at hT4
  exact aw_return dX2_lose_48 rfl (⟨rfl, ⟨n4, hT4⟩, ((hk1.tr hk2).tr hk3).tr hk4⟩)
theorem C2_firstFree {t t' : Nat} {x : Int32} (hT : zTP G μ m lam K P) (hx : x = nI t) (hb : t' < 2 ^ 30) (htt : t ≤ t') (hf : tFreeT P t') (hn : ∀ u, t ≤ u → u < t' → ¬ tFreeT P u) : Meets G 4 MX2_firstFree [.ref m, .int x] μ (zPure (.int (nI t')) μ) 0 0 := by
  subst hx
  have hm := hT.m
  refine meets_of (by decide +kernel) (Nat.le_of_ble_eq_true rfl) ?_
  refine aw_iload_n (i := 1) (q := 1) dX2_firstFree_0 rfl rfl rfl ?_
  refine aw_istore_n (i := 2) (q := 2) dX2_firstFree_1 rfl (by decide) rfl ?_
  have loop : ∀ n e, e + n = t' → t ≤ e → AW G 4 MX2_firstFree (zPure (.int (nI t')) μ) 0 0 2 [(0, .ref m), (2, .int (nI e))] [] μ := by
    intro n
    induction n with
    | zero =>
      intro e he h0
      first | refine aw_aload_n (i := 0) (q := 3) dX2_firstFree_2 rfl rfl rfl ?_ | refine aw_aloadN_n (i := 0) (q := 3) dX2_firstFree_2 rfl rfl rfl ?_ | refine aw_aloadQ_n (i := 0) (q := 3) dX2_firstFree_2 rfl rfl rfl ?_
      refine aw_iload_n (i := 2) (q := 4) dX2_firstFree_3 rfl rfl rfl ?_
      refine aw_bipush (v := 6) (q := 6) dX2_firstFree_4 rfl rfl ?_
      refine aw_idiv (q := 7) dX2_firstFree_6 (by decide) rfl ?_
      refine aw_iload_n (i := 2) (q := 8) dX2_firstFree_7 rfl rfl rfl ?_
      refine aw_bipush (v := 6) (q := 10) dX2_firstFree_8 rfl rfl ?_
      refine aw_irem (q := 11) dX2_firstFree_10 (by decide) rfl ?_
      refine aw_callV (q := 14) dX2_firstFree_11 (C2_isFree hT) cv_X2_84_2 (by assumption) rfl rfl (by decide) (by decide) (by first | exact Nat.le_of_ble_eq_true rfl | simp [zcat_rf, Value.category]) rfl (zpk ?_)
      rw [zrem6 (by omega), zdiv6 (by omega)]
      refine aw_if_ne (tgt := 23) (q := 17) dX2_firstFree_14 (by decide) rfl (fun _ => ?_) (fun hc => absurd hc ((by rw [zB_t (show tFreeT P e by rw [show e = t' by omega]; exact hf)]; decide)))
      refine aw_iload_n (i := 2) (q := 24) dX2_firstFree_23 rfl rfl rfl ?_
      exact aw_ireturn dX2_firstFree_24 rfl (by first | rfl | exact zB_nar _) (by refine ⟨?_, rfl⟩; rw [show e = t' by omega])
    | succ n ih =>
      intro e he h0
      first | refine aw_aload_n (i := 0) (q := 3) dX2_firstFree_2 rfl rfl rfl ?_ | refine aw_aloadN_n (i := 0) (q := 3) dX2_firstFree_2 rfl rfl rfl ?_ | refine aw_aloadQ_n (i := 0) (q := 3) dX2_firstFree_2 rfl rfl rfl ?_
      refine aw_iload_n (i := 2) (q := 4) dX2_firstFree_3 rfl rfl rfl ?_
      refine aw_bipush (v := 6) (q := 6) dX2_firstFree_4 rfl rfl ?_
      refine aw_idiv (q := 7) dX2_firstFree_6 (by decide) rfl ?_
      refine aw_iload_n (i := 2) (q := 8) dX2_firstFree_7 rfl rfl rfl ?_
      refine aw_bipush (v := 6) (q := 10) dX2_firstFree_8 rfl rfl ?_
      refine aw_irem (q := 11) dX2_firstFree_10 (by decide) rfl ?_
      refine aw_callV (q := 14) dX2_firstFree_11 (C2_isFree hT) cv_X2_84_2 (by assumption) rfl rfl (by decide) (by decide) (by first | exact Nat.le_of_ble_eq_true rfl | simp [zcat_rf, Value.category]) rfl (zpk ?_)
      rw [zrem6 (by omega), zdiv6 (by omega)]
      refine aw_if_ne (tgt := 23) (q := 17) dX2_firstFree_14 (by decide) rfl (fun hc => absurd ((zB_f (show ¬ tFreeT P e from hn e h0 (by omega)))) hc) (fun _ => ?_)
      refine aw_iinc (q := 20) dX2_firstFree_17 rfl (by first | exact nI_1 _ | rfl) (by decide) rfl ?_
      refine aw_goto (tgt := 2) dX2_firstFree_20 (by decide) ?_
      exact aw_locals (by exact ⟨rfl, rfl, trivial⟩) (ih (e + 1) (by omega) (by omega))
  exact aw_locals (by exact ⟨rfl, rfl, trivial⟩) (loop (t' - t) t (by omega) (by omega))
/-- which lamp is fitted: writes -/
def tPutIn (P : zP) (l : Nat) : zP := updP (if tFit P < 0 then P else updP P 2 (tFit P).toNatClampNeg 2 0) 2 l 2 1
theorem C2_putIn {l : Nat} {x : Int32} (hT : zTP G μ m lam K P) (hx : x = nI l) (hl : l < 12) : Meets G 2 MX2_putIn [.ref m, .int x] μ (tPost G μ m lam K (tPutIn P l) (some (.int (tFit P)))) 0 0 := by
  subst hx
  have hm := hT.m
  have h1 := hT.a1
  have hN := hT.2.2.l.2
  refine meets_of (by decide +kernel) (Nat.le_of_ble_eq_true rfl) ?_
  first | refine aw_aload_n (i := 0) (q := 1) dX2_putIn_0 rfl rfl rfl ?_ | refine aw_aloadN_n (i := 0) (q := 1) dX2_putIn_0 rfl rfl rfl ?_ | refine aw_aloadQ_n (i := 0) (q := 1) dX2_putIn_0 rfl rfl rfl ?_
  refine aw_callV (q := 4) dX2_putIn_1 (C2_fitted hT) cv_X2_64_2 (by assumption) rfl rfl (by decide) (by decide) (by first | exact Nat.le_of_ble_eq_true rfl | simp [zcat_rf, Value.category]) rfl (zpk ?_)
  refine aw_istore_n (i := 2) (q := 5) dX2_putIn_4 rfl (by decide) rfl ?_
  refine aw_iload_n (i := 2) (q := 6) dX2_putIn_5 rfl rfl rfl ?_
  refine aw_if_lt (tgt := 23) (q := 9) dX2_putIn_6 (by decide) rfl (fun ha => ?_) (fun ha => ?_)
  · first | refine aw_aload_n (i := 0) (q := 24) dX2_putIn_23 rfl rfl rfl ?_ | refine aw_aloadN_n (i := 0) (q := 24) dX2_putIn_23 rfl rfl rfl ?_ | refine aw_aloadQ_n (i := 0) (q := 24) dX2_putIn_23 rfl rfl rfl ?_
    refine aw_getfield (q := 27) dX2_putIn_24 gf_X2_7_2 (by assumption) rfl rfl ?_
    refine aw_bipush (v := 50) (q := 29) dX2_putIn_27 rfl rfl ?_
    refine aw_iconst (v := 4) (q := 30) dX2_putIn_29 rfl rfl ?_
    refine aw_iload_n (i := 1) (q := 31) dX2_putIn_30 rfl rfl rfl ?_
    refine aw_imul (q := 32) dX2_putIn_31 rfl ?_
    refine aw_iadd (q := 33) dX2_putIn_32 rfl ?_
    refine aw_iconst (v := 2) (q := 34) dX2_putIn_33 rfl rfl ?_
    refine aw_iadd (q := 35) dX2_putIn_34 rfl ?_
    refine aw_iconst (v := 1) (q := 36) dX2_putIn_35 rfl rfl ?_
    refine aw_iast (q := 37) (50 + 4 * l + 2) dX2_putIn_36 h1 (by first | assumption | simp) (by first | assumption | (simp only [← nI_add, ← pk_mul]; rfl) | rfl) (by omega) (by omega) rfl (fun μ1 hg_μ1 => ?_)
    have h1 : μ1 _ = some _ := hg_μ1 ▸ updM_eq _ _ _
    obtain ⟨hT1, hk1⟩ := hT.st (s := 2) (i := l) (c := 2) (by omega) hl (show 2 < 4 by omega) rfl hg_μ1 (hT.2.2.upd (by omega))
    refine aw_iload_n (i := 2) (q := 38) dX2_putIn_37 rfl rfl rfl ?_
    exact aw_ireturn dX2_putIn_38 rfl (by first | rfl | exact zB_nar _) (⟨rfl, ⟨_, by rw [tPutIn, if_pos ha]; exact hT1⟩, hk1⟩)
  · skip
    obtain ⟨j, hj, e, -⟩ : ∃ j, j < pcn P 8 ∧ tFit P = nI j ∧ P 2 j 2 = 1 := by
      rcases tFitted_lt (P := P) (pcn P 8) with q | q
      · exact absurd (show tFit P < 0 by rw [tFit, q]; decide) ha
      · exact q
    have ec : (nI j).toNatClampNeg = j := nI_clamp (by omega)
    rw [e]
    first | refine aw_aload_n (i := 0) (q := 10) dX2_putIn_9 rfl rfl rfl ?_ | refine aw_aloadN_n (i := 0) (q := 10) dX2_putIn_9 rfl rfl rfl ?_ | refine aw_aloadQ_n (i := 0) (q := 10) dX2_putIn_9 rfl rfl rfl ?_
    refine aw_getfield (q := 13) dX2_putIn_10 gf_X2_7_2 (by assumption) rfl rfl ?_
    refine aw_bipush (v := 50) (q := 15) dX2_putIn_13 rfl rfl ?_
    refine aw_iconst (v := 4) (q := 16) dX2_putIn_15 rfl rfl ?_
    refine aw_iload_n (i := 2) (q := 17) dX2_putIn_16 rfl rfl rfl ?_
    refine aw_imul (q := 18) dX2_putIn_17 rfl ?_
    refine aw_iadd (q := 19) dX2_putIn_18 rfl ?_
    refine aw_iconst (v := 2) (q := 20) dX2_putIn_19 rfl rfl ?_
    refine aw_iadd (q := 21) dX2_putIn_20 rfl ?_
    refine aw_iconst (v := 0) (q := 22) dX2_putIn_21 rfl rfl ?_
    refine aw_iast (q := 23) (50 + 4 * j + 2) dX2_putIn_22 h1 (by first | assumption | simp) (by first | assumption | (simp only [← nI_add, ← pk_mul]; rfl) | rfl) (by omega) (by omega) rfl (fun μ1 hg_μ1 => ?_)
    have h1 : μ1 _ = some _ := hg_μ1 ▸ updM_eq _ _ _
    obtain ⟨hT1, hk1⟩ := hT.st (s := 2) (i := j) (c := 2) (by omega) (show j < 12 by omega) (show 2 < 4 by omega) rfl hg_μ1 (hT.2.2.upd (by omega))
    have hm := hT1.m
    have h1 := hT1.a1
    first | refine aw_aload_n (i := 0) (q := 24) dX2_putIn_23 rfl rfl rfl ?_ | refine aw_aloadN_n (i := 0) (q := 24) dX2_putIn_23 rfl rfl rfl ?_ | refine aw_aloadQ_n (i := 0) (q := 24) dX2_putIn_23 rfl rfl rfl ?_
    refine aw_getfield (q := 27) dX2_putIn_24 gf_X2_7_2 (by assumption) rfl rfl ?_
    refine aw_bipush (v := 50) (q := 29) dX2_putIn_27 rfl rfl ?_
    refine aw_iconst (v := 4) (q := 30) dX2_putIn_29 rfl rfl ?_
    refine aw_iload_n (i := 1) (q := 31) dX2_putIn_30 rfl rfl rfl ?_
    refine aw_imul (q := 32) dX2_putIn_31 rfl ?_
    refine aw_iadd (q := 33) dX2_putIn_32 rfl ?_
    refine aw_iconst (v := 2) (q := 34) dX2_putIn_33 rfl rfl ?_
    refine aw_iadd (q := 35) dX2_putIn_34 rfl ?_
    refine aw_iconst (v := 1) (q := 36) dX2_putIn_35 rfl rfl ?_
    refine aw_iast (q := 37) (50 + 4 * l + 2) dX2_putIn_36 h1 (by first | assumption | simp) (by first | assumption | (simp only [← nI_add, ← pk_mul]; rfl) | rfl) (by omega) (by omega) rfl (fun μ2 hg_μ2 => ?_)
    have h1 : μ2 _ = some _ := hg_μ2 ▸ updM_eq _ _ _
    obtain ⟨hT2, hk2⟩ := hT1.st (s := 2) (i := l) (c := 2) (by omega) hl (show 2 < 4 by omega) rfl hg_μ2 (hT1.2.2.upd (by omega))
    rw [setK_twice] at hT2
    refine aw_iload_n (i := 2) (q := 38) dX2_putIn_37 rfl rfl rfl ?_
    exact aw_ireturn dX2_putIn_38 rfl (by first | rfl | exact zB_nar _) (⟨rfl, ⟨_, by rw [tPutIn, if_neg ha, e, ec]; exact hT2⟩, hk1.tr hk2⟩)
end ZTW4
