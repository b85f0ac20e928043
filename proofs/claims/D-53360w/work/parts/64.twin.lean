/-! THE TWIN, part 23: texts: number -/
set_option maxRecDepth 100000
section ZTW23
variable {G : zG} {μ : zM} {m : Nat} {lam : Nat → Nat} {K : Nat → Nat → Int32} {P : zP} {R : tR}
theorem C2_number {a : Nat} {w : Bool} (hS : zTS G μ m lam K P R) (ha : K 0 5 = nI a) (hb : a < 900) (hw : K 0 6 = bI w) : Meets G 3 MX2_number [.ref m] μ (tX G μ m lam K P R (tNbr (tSg R) w a).1 (tNbr (tSg R) w a).2.1 (some (.int (tNbr (tSg R) w a).2.2))) 0 0 := by
  have hm := hS.1.m
  refine meets_of (by decide +kernel) (Nat.le_of_ble_eq_true rfl) ?_
  first | refine aw_aload_n (i := 0) (q := 1) dX2_number_0 rfl rfl rfl ?_ | refine aw_aloadN_n (i := 0) (q := 1) dX2_number_0 rfl rfl rfl ?_ | refine aw_aloadQ_n (i := 0) (q := 1) dX2_number_0 rfl rfl rfl ?_
  refine aw_iconst (v := 0) (q := 2) dX2_number_1 rfl rfl ?_
  refine aw_bipush (v := 9) (q := 4) dX2_number_2 rfl rfl ?_
  refine aw_callV (q := 7) dX2_number_4 (C2_digit hS ha (by omega) hw) cv_X2_194_2 (by assumption) rfl rfl (by decide) (by decide) (by first | exact Nat.le_of_ble_eq_true rfl | simp [zcat_rf, Value.category]) rfl (fun v4 μ1 hp => ?_)
  obtain ⟨rfl, ⟨K1, hS1, ha1, hw1, h41, hK1⟩, hk1⟩ := hp
  have hm := hS1.1.m
  refine aw_istore_n (i := 1) (q := 8) dX2_number_7 rfl (by decide) rfl ?_
  cases hd : tDW (tSg R) w a 0 9 with
  | true =>
    have e0 : tNbr (tSg R) w a = (true, a, 0) := by rw [tNbr, hd, if_pos rfl]
    rw [hd] at hw1 ha1
    first | refine aw_aload_n (i := 0) (q := 9) dX2_number_8 rfl rfl rfl ?_ | refine aw_aloadN_n (i := 0) (q := 9) dX2_number_8 rfl rfl rfl ?_ | refine aw_aloadQ_n (i := 0) (q := 9) dX2_number_8 rfl rfl rfl ?_
    refine aw_getfield (q := 12) dX2_number_9 gf_X2_188_2 (by assumption) rfl rfl ?_
    rw [hw1]
    refine aw_if_ne (tgt := 77) (q := 15) dX2_number_12 (by decide) rfl (fun _ => ?_) (fun hc => absurd hc ((by decide)))
    refine aw_iload_n (i := 1) (q := 78) dX2_number_77 rfl rfl rfl ?_
    rw [e0]
    exact aw_ireturn dX2_number_78 rfl (by first | rfl | exact zB_nar _) (⟨by (rw [tDV, hd, if_pos rfl]), ⟨K1, hS1, ha1, hw1, h41, hK1⟩, hk1⟩)
  | false =>
    have e0 : tNbr (tSg R) w a = (false, tNumN (tSg R) 3 (a + 1) (tSg R a - 48)) := by rw [tNbr, hd, if_neg (by decide)]
    rw [hd] at hw1 ha1
    have hdig : 0 ≤ tSg R a - 48 ∧ tSg R a - 48 ≤ 9 := by
      have h := hd
      unfold tDW at h
      rw [Bool.or_eq_false_iff] at h
      exact Decidable.of_not_not (of_decide_eq_false h.2)
    obtain ⟨k0, -, hk0, ek0⟩ := zOf (A := 0) (B := 9) rfl rfl (by omega) (by omega) hdig
    have loop : ∀ f b k, k ≤ 999 → (k = 0 ∨ 1000 ≤ k * 10 ^ f) → b + f < 950 → tNumN (tSg R) f b (nI k) = tNumN (tSg R) 3 (a + 1) (tSg R a - 48) → ∀ (μ2 : zM) (K2 : Nat → Nat → Int32), zTS G μ2 m lam K2 P R → K2 0 5 = nI b → K2 0 6 = bI false → K2 0 4 = K 0 4 → (∀ r, r ≠ 0 → K2 r = K r) → zKp tTw μ μ2 →
        AW G 3 MX2_number (tX G μ m lam K P R (tNbr (tSg R) w a).1 (tNbr (tSg R) w a).2.1 (some (.int (tNbr (tSg R) w a).2.2))) 0 0 8 [(0, .ref m), (1, .int (nI k))] [] μ2 := by
      intro f
      induction f with
      | zero =>
        intro b k h1 h2 h3 he μ2 K2 hS ha hw h4 hK hk
        have hm := hS.1.m
        have k00 : k = 0 := by omega
        subst k00
        first | refine aw_aload_n (i := 0) (q := 9) dX2_number_8 rfl rfl rfl ?_ | refine aw_aloadN_n (i := 0) (q := 9) dX2_number_8 rfl rfl rfl ?_ | refine aw_aloadQ_n (i := 0) (q := 9) dX2_number_8 rfl rfl rfl ?_
        refine aw_getfield (q := 12) dX2_number_9 gf_X2_188_2 (by assumption) rfl rfl ?_
        rw [hw]
        refine aw_if_ne (tgt := 77) (q := 15) dX2_number_12 (by decide) rfl (fun hc => absurd (rfl) hc) (fun _ => ?_)
        refine aw_iload_n (i := 1) (q := 16) dX2_number_15 rfl rfl rfl ?_
        refine aw_if_le (tgt := 77) (q := 19) dX2_number_16 (by decide) rfl (fun _ => ?_) (fun hc => absurd (Int32.le_refl _) hc)
        refine aw_iload_n (i := 1) (q := 78) dX2_number_77 rfl rfl rfl ?_
        rw [e0, ← he]
        exact aw_ireturn dX2_number_78 rfl (by first | rfl | exact zB_nar _) (⟨rfl, ⟨K2, hS, ha, hw, h4, hK⟩, hk⟩)
      | succ f ih =>
        intro b k h1 h2 h3 he μ2 K2 hS ha hw h4 hK hk
        have hm := hS.1.m
        have stop : ¬ (0 < nI k ∧ (48 ≤ tSg R b ∧ tSg R b ≤ 57) ∧ 10 * nI k + tSg R b - 48 ≤ 999) → AW G 3 MX2_number (tX G μ m lam K P R (tNbr (tSg R) w a).1 (tNbr (tSg R) w a).2.1 (some (.int (tNbr (tSg R) w a).2.2))) 0 0 77 [(0, .ref m), (1, .int (nI k))] [] μ2 := by
          intro h
          have e1 : tNumN (tSg R) 3 (a + 1) (tSg R a - 48) = (b, nI k) := by rw [← he]; exact if_neg h
          rw [e0, e1]
          refine aw_iload_n (i := 1) (q := 78) dX2_number_77 rfl rfl rfl ?_
          exact aw_ireturn dX2_number_78 rfl (by first | rfl | exact zB_nar _) (⟨rfl, ⟨K2, hS, ha, hw, h4, hK⟩, hk⟩)
        first | refine aw_aload_n (i := 0) (q := 9) dX2_number_8 rfl rfl rfl ?_ | refine aw_aloadN_n (i := 0) (q := 9) dX2_number_8 rfl rfl rfl ?_ | refine aw_aloadQ_n (i := 0) (q := 9) dX2_number_8 rfl rfl rfl ?_
        refine aw_getfield (q := 12) dX2_number_9 gf_X2_188_2 (by assumption) rfl rfl ?_
        rw [hw]
        refine aw_if_ne (tgt := 77) (q := 15) dX2_number_12 (by decide) rfl (fun hc => absurd (rfl) hc) (fun _ => ?_)
        refine aw_iload_n (i := 1) (q := 16) dX2_number_15 rfl rfl rfl ?_
        refine aw_if_le (tgt := 77) (q := 19) dX2_number_16 (by decide) rfl (fun hc => ?_) (fun hc => ?_)
        · skip
          exact aw_locals (by exact ⟨rfl, rfl, trivial⟩) (stop (fun h => absurd h.1 (Int32.not_lt.mpr hc)))
        · first | refine aw_aload_n (i := 0) (q := 20) dX2_number_19 rfl rfl rfl ?_ | refine aw_aloadN_n (i := 0) (q := 20) dX2_number_19 rfl rfl rfl ?_ | refine aw_aloadQ_n (i := 0) (q := 20) dX2_number_19 rfl rfl rfl ?_
          refine aw_callV (q := 23) dX2_number_20 (C2_sign hS ha (by omega)) cv_X2_191_2 (by assumption) rfl rfl (by decide) (by decide) (by first | exact Nat.le_of_ble_eq_true rfl | simp [zcat_rf, Value.category]) rfl (zpk ?_)
          refine aw_bipush (v := 48) (q := 25) dX2_number_23 rfl rfl ?_
          refine aw_bipush (v := 57) (q := 27) dX2_number_25 rfl rfl ?_
          refine aw_callS (q := 30) dX2_number_27 (C2_in) cs_X2_49 rfl rfl (by decide) (by decide) (by first | exact Nat.le_of_ble_eq_true rfl | simp [zcat_rf, Value.category]) rfl (zpk ?_)
          refine aw_if_eq (tgt := 77) (q := 33) dX2_number_30 (by decide) rfl (fun hd2 => ?_) (fun hd2 => ?_)
          · skip
            exact aw_locals (by exact ⟨rfl, rfl, trivial⟩) (stop (fun h => zB_0 hd2 h.2.1))
          · refine aw_bipush (v := 10) (q := 35) dX2_number_33 rfl rfl ?_
            refine aw_iload_n (i := 1) (q := 36) dX2_number_35 rfl rfl rfl ?_
            refine aw_imul (q := 37) dX2_number_36 rfl ?_
            first | refine aw_aload_n (i := 0) (q := 38) dX2_number_37 rfl rfl rfl ?_ | refine aw_aloadN_n (i := 0) (q := 38) dX2_number_37 rfl rfl rfl ?_ | refine aw_aloadQ_n (i := 0) (q := 38) dX2_number_37 rfl rfl rfl ?_
            refine aw_callV (q := 41) dX2_number_38 (C2_sign hS ha (by omega)) cv_X2_191_2 (by assumption) rfl rfl (by decide) (by decide) (by first | exact Nat.le_of_ble_eq_true rfl | simp [zcat_rf, Value.category]) rfl (zpk ?_)
            refine aw_iadd (q := 42) dX2_number_41 rfl ?_
            refine aw_bipush (v := 48) (q := 44) dX2_number_42 rfl rfl ?_
            refine aw_isub (q := 45) dX2_number_44 rfl ?_
            refine aw_sipush (v := 999) (q := 48) dX2_number_45 rfl rfl ?_
            refine aw_icmp_gt (tgt := 77) (q := 51) dX2_number_48 (by decide) rfl (fun he2 => ?_) (fun he2 => ?_)
            · skip
              exact aw_locals (by exact ⟨rfl, rfl, trivial⟩) (stop (fun h => absurd h.2.2 (Int32.not_le.mpr he2)))
            · refine aw_bipush (v := 10) (q := 53) dX2_number_51 rfl rfl ?_
              refine aw_iload_n (i := 1) (q := 54) dX2_number_53 rfl rfl rfl ?_
              refine aw_imul (q := 55) dX2_number_54 rfl ?_
              first | refine aw_aload_n (i := 0) (q := 56) dX2_number_55 rfl rfl rfl ?_ | refine aw_aloadN_n (i := 0) (q := 56) dX2_number_55 rfl rfl rfl ?_ | refine aw_aloadQ_n (i := 0) (q := 56) dX2_number_55 rfl rfl rfl ?_
              refine aw_callV (q := 59) dX2_number_56 (C2_sign hS ha (by omega)) cv_X2_191_2 (by assumption) rfl rfl (by decide) (by decide) (by first | exact Nat.le_of_ble_eq_true rfl | simp [zcat_rf, Value.category]) rfl (zpk ?_)
              refine aw_iadd (q := 60) dX2_number_59 rfl ?_
              refine aw_bipush (v := 48) (q := 62) dX2_number_60 rfl rfl ?_
              refine aw_isub (q := 63) dX2_number_62 rfl ?_
              refine aw_istore_n (i := 1) (q := 64) dX2_number_63 rfl (by decide) rfl ?_
              first | refine aw_aload_n (i := 0) (q := 65) dX2_number_64 rfl rfl rfl ?_ | refine aw_aloadN_n (i := 0) (q := 65) dX2_number_64 rfl rfl rfl ?_ | refine aw_aloadQ_n (i := 0) (q := 65) dX2_number_64 rfl rfl rfl ?_
              refine aw_dup (q := 66) dX2_number_65 (by first | rfl | exact zcat_rf _) rfl ?_
              refine aw_getfield (q := 69) dX2_number_66 gf_X2_185_2 (by assumption) rfl rfl ?_
              refine aw_iconst (v := 1) (q := 70) dX2_number_69 rfl rfl ?_
              refine aw_iadd (q := 71) dX2_number_70 rfl ?_
              have go : 0 < nI k ∧ (48 ≤ tSg R b ∧ tSg R b ≤ 57) ∧ 10 * nI k + tSg R b - 48 ≤ 999 := ⟨Int32.not_le.mp hc, zB_1 hd2, Int32.not_lt.mp he2⟩
              obtain ⟨c, c1, c2, ec⟩ := zOf (A := 48) (B := 57) rfl rfl (by omega) (by omega) (zB_1 hd2)
              have hk1 : 0 < k := by
                have := go.1
                have h0 : nI 0 < nI k := this
                exact (nI_ltI (by omega) (by omega)).mp h0
              have ev : 10 * nI k + tSg R b - 48 = nI (10 * k + (c - 48)) := by
                rw [ec, show (10 : Int32) * nI k = nI (10 * k) from pk_mul 10 k, nI_add, show nI (10 * k + c) - 48 = nI (10 * k + c - 48) from pk_sub (b := 48) (by omega)]
                congr 1
                omega
              have hle := go.2.2
              rw [ev] at hle
              have hle2 := (nI_leI (b := 999) (by omega) (by omega)).mp hle
              rw [ev]
              rw [ha]
              refine aw_putfield (q := 74) dX2_number_71 gf_X2_185_2 hm (by first | assumption | simp) (by first | rfl | exact znar_rf _ _) (by first | rfl | exact zfit_rf _ _) (Nat.le_of_ble_eq_true rfl) rfl (fun μ3 hg_μ3 => ?_)
              have hm : μ3 _ = some _ := hg_μ3 ▸ updM_eq _ _ _
              simp only [List.set] at hm hg_μ3
              obtain ⟨hS3, hk3⟩ := hS.sc 5 (nI b + 1) (by decide) hg_μ3
              refine aw_goto (tgt := 8) dX2_number_74 (by decide) ?_
              exact aw_locals (by exact ⟨rfl, rfl, trivial⟩) (ih (b + 1) (10 * k + (c - 48)) hle2 (Or.inr (by rcases h2 with h2 | h2; omega; (have : k * 10 ^ (f + 1) = (10 * k) * 10 ^ f := by (rw [Nat.pow_succ, Nat.mul_comm 10 k, Nat.mul_assoc, Nat.mul_comm 10 (10 ^ f)])); rw [this] at h2; exact Nat.le_trans h2 (Nat.mul_le_mul_right _ (by omega)))) (by omega) (by rw [← he, ← ev]; exact Eq.symm (if_pos go)) μ3 _ hS3 (by show nI b + 1 = nI (b + 1); exact nI_1 b) hw h4 (fun r hr => (setK_ne hr).trans (hK r hr)) (hk.tr hk3))
    exact aw_locals (by exact ⟨rfl, by rw [tDV, hd, if_neg (by decide), ek0]; rfl, trivial⟩) (loop 3 (a + 1) k0 (by omega) (by omega) (by omega) (by rw [ek0]) μ1 K1 hS1 ha1 hw1 h41 hK1 hk1)
end ZTW23
