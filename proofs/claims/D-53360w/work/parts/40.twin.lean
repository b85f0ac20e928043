/-! THE TWIN, part 1: its memory; readers -/
set_option maxRecDepth 100000
/-- the reference's object: lam r is the address of its r-th array; K 0: its numbers, K r: the r-th array's contents -/
abbrev oTw (lam : Nat → Nat) (K : Nat → Nat → Int32) : va_E := .inr (2, [.ref (lam 1), .ref (lam 2), .ref (lam 3), .int (K 0 0), .ref (lam 4), .ref (lam 5), .ref (lam 6), .int (K 0 1), .int (K 0 2), .ref (lam 7), .ref (lam 8), .ref (lam 9), .int (K 0 3), .ref (lam 10), .int (K 0 4), .int (K 0 5), .int (K 0 6)])
def zTw (G : zG) (μ : zM) (m : Nat) (lam : Nat → Nat) (K : Nat → Nat → Int32) : Prop :=
  μ m = some ((2, 0), oTw lam K) ∧ μ (lam 1) = some ((2, 1), aI G 1980 (K 1)) ∧ μ (lam 2) = some ((2, 2), aI G 1980 (K 2)) ∧ μ (lam 3) = some ((2, 3), aI G 11880 (K 3)) ∧ μ (lam 4) = some ((2, 4), aI G 3960 (K 4)) ∧ μ (lam 5) = some ((2, 5), aZ G 2 (K 5)) ∧
  μ (lam 6) = some ((2, 6), aI G 80 (K 6)) ∧ μ (lam 7) = some ((2, 7), aI G 8 (K 7)) ∧ μ (lam 8) = some ((2, 8), aI G 4 (K 8)) ∧ μ (lam 9) = some ((2, 9), aI G 60 (K 9)) ∧ μ (lam 10) = some ((2, 10), aI G 200 (K 10))
/-- .. and its row of numbers says P -/
def zTP (G : zG) (μ : zM) (m : Nat) (lam : Nat → Nat) (K : Nat → Nat → Int32) (P : zP) : Prop := zTw G μ m lam K ∧ RepN (K 1) P ∧ tOk P
theorem zTP.m {G : zG} {μ : zM} {m : Nat} {lam : Nat → Nat} {K : Nat → Nat → Int32} {P : zP} (h : zTP G μ m lam K P) : μ m = some ((2, 0), oTw lam K) := h.1.1
theorem zTP.a1 {G : zG} {μ : zM} {m : Nat} {lam : Nat → Nat} {K : Nat → Nat → Int32} {P : zP} (h : zTP G μ m lam K P) : μ (lam 1) = some ((2, 1), aI G 1980 (K 1)) := h.1.2.1
theorem zTP.a7 {G : zG} {μ : zM} {m : Nat} {lam : Nat → Nat} {K : Nat → Nat → Int32} {P : zP} (h : zTP G μ m lam K P) : μ (lam 7) = some ((2, 7), aI G 8 (K 7)) := h.1.2.2.2.2.2.2.2.1
section ZTW1
variable {G : zG} {μ : zM} {m : Nat} {lam : Nat → Nat} {K : Nat → Nat → Int32} {P : zP}
abbrev tIn (v a b : Int32) : Int32 := zB (a ≤ v ∧ v ≤ b)
theorem C2_in {v a b : Int32} : Meets G 1 MX2_in [.int v, .int a, .int b] μ (zPure (.int (tIn v a b)) μ) 0 0 := by
  refine meets_of (by decide +kernel) (Nat.le_of_ble_eq_true rfl) ?_
  refine aw_iload_n (i := 0) (q := 1) dX2_in_0 rfl rfl rfl ?_
  refine aw_iload_n (i := 1) (q := 2) dX2_in_1 rfl rfl rfl ?_
  refine aw_icmp_lt (tgt := 14) (q := 5) dX2_in_2 (by decide) rfl (fun h1 => ?_) (fun h1 => ?_)
  · refine aw_iconst (v := 0) (q := 15) dX2_in_14 rfl rfl ?_
    exact aw_ireturn dX2_in_15 rfl (by first | rfl | exact zB_nar _) (by refine ⟨?_, rfl⟩; simp [tIn, zB, Int32.not_le.mpr h1])
  · refine aw_iload_n (i := 0) (q := 6) dX2_in_5 rfl rfl rfl ?_
    refine aw_iload_n (i := 2) (q := 7) dX2_in_6 rfl rfl rfl ?_
    refine aw_icmp_gt (tgt := 14) (q := 10) dX2_in_7 (by decide) rfl (fun h2 => ?_) (fun h2 => ?_)
    · refine aw_iconst (v := 0) (q := 15) dX2_in_14 rfl rfl ?_
      exact aw_ireturn dX2_in_15 rfl (by first | rfl | exact zB_nar _) (by refine ⟨?_, rfl⟩; simp [tIn, zB, Int32.not_le.mpr h2])
    · refine aw_iconst (v := 1) (q := 11) dX2_in_10 rfl rfl ?_
      refine aw_goto (tgt := 15) dX2_in_11 (by decide) ?_
      exact aw_ireturn dX2_in_15 rfl (by first | rfl | exact zB_nar _) (by refine ⟨?_, rfl⟩; simp [tIn, zB, Int32.not_lt.mp h1, Int32.not_lt.mp h2])
theorem C2_isKind {k : Int32} (hT : zTP G μ m lam K P) : Meets G 2 MX2_isKind [.ref m, .int k] μ (zPure (.int (tIn k 0 (P 0 0 7 - 1))) μ) 0 0 := by
  have hm := hT.m
  have h1 := hT.a1
  refine meets_of (by decide +kernel) (Nat.le_of_ble_eq_true rfl) ?_
  refine aw_iload_n (i := 1) (q := 1) dX2_isKind_0 rfl rfl rfl ?_
  refine aw_iconst (v := 0) (q := 2) dX2_isKind_1 rfl rfl ?_
  first | refine aw_aload_n (i := 0) (q := 3) dX2_isKind_2 rfl rfl rfl ?_ | refine aw_aloadN_n (i := 0) (q := 3) dX2_isKind_2 rfl rfl rfl ?_ | refine aw_aloadQ_n (i := 0) (q := 3) dX2_isKind_2 rfl rfl rfl ?_
  refine aw_getfield (q := 6) dX2_isKind_3 gf_X2_7_2 (by assumption) rfl rfl ?_
  refine aw_bipush (v := 7) (q := 8) dX2_isKind_6 rfl rfl ?_
  refine aw_iald (q := 9) (v := P 0 0 7) (7) dX2_isKind_8 (by assumption) (by first | assumption | (simp only [← nI_add, ← pk_mul]; rfl) | rfl) (by omega) (by omega) (hT.2.1.g (by omega)) rfl ?_
  refine aw_iconst (v := 1) (q := 10) dX2_isKind_9 rfl rfl ?_
  refine aw_isub (q := 11) dX2_isKind_10 rfl ?_
  refine aw_callS (q := 14) dX2_isKind_11 (C2_in) cs_X2_49 rfl rfl (by decide) (by decide) (by first | exact Nat.le_of_ble_eq_true rfl | simp [zcat_rf, Value.category]) rfl (zpk ?_)
  exact aw_ireturn dX2_isKind_14 rfl (by first | rfl | exact zB_nar _) (⟨rfl, rfl⟩)
theorem C2_isLamp {k : Int32} (hT : zTP G μ m lam K P) : Meets G 2 MX2_isLamp [.ref m, .int k] μ (zPure (.int (tIn k 0 (P 0 0 8 - 1))) μ) 0 0 := by
  have hm := hT.m
  have h1 := hT.a1
  refine meets_of (by decide +kernel) (Nat.le_of_ble_eq_true rfl) ?_
  refine aw_iload_n (i := 1) (q := 1) dX2_isLamp_0 rfl rfl rfl ?_
  refine aw_iconst (v := 0) (q := 2) dX2_isLamp_1 rfl rfl ?_
  first | refine aw_aload_n (i := 0) (q := 3) dX2_isLamp_2 rfl rfl rfl ?_ | refine aw_aloadN_n (i := 0) (q := 3) dX2_isLamp_2 rfl rfl rfl ?_ | refine aw_aloadQ_n (i := 0) (q := 3) dX2_isLamp_2 rfl rfl rfl ?_
  refine aw_getfield (q := 6) dX2_isLamp_3 gf_X2_7_2 (by assumption) rfl rfl ?_
  refine aw_bipush (v := 8) (q := 8) dX2_isLamp_6 rfl rfl ?_
  refine aw_iald (q := 9) (v := P 0 0 8) (8) dX2_isLamp_8 (by assumption) (by first | assumption | (simp only [← nI_add, ← pk_mul]; rfl) | rfl) (by omega) (by omega) (hT.2.1.g (by omega)) rfl ?_
  refine aw_iconst (v := 1) (q := 10) dX2_isLamp_9 rfl rfl ?_
  refine aw_isub (q := 11) dX2_isLamp_10 rfl ?_
  refine aw_callS (q := 14) dX2_isLamp_11 (C2_in) cs_X2_49 rfl rfl (by decide) (by decide) (by first | exact Nat.le_of_ble_eq_true rfl | simp [zcat_rf, Value.category]) rfl (zpk ?_)
  exact aw_ireturn dX2_isLamp_14 rfl (by first | rfl | exact zB_nar _) (⟨rfl, rfl⟩)
theorem C2_isShow {k : Int32} (hT : zTP G μ m lam K P) : Meets G 2 MX2_isShow [.ref m, .int k] μ (zPure (.int (tIn k 0 (P 0 0 9 - 1))) μ) 0 0 := by
  have hm := hT.m
  have h1 := hT.a1
  refine meets_of (by decide +kernel) (Nat.le_of_ble_eq_true rfl) ?_
  refine aw_iload_n (i := 1) (q := 1) dX2_isShow_0 rfl rfl rfl ?_
  refine aw_iconst (v := 0) (q := 2) dX2_isShow_1 rfl rfl ?_
  first | refine aw_aload_n (i := 0) (q := 3) dX2_isShow_2 rfl rfl rfl ?_ | refine aw_aloadN_n (i := 0) (q := 3) dX2_isShow_2 rfl rfl rfl ?_ | refine aw_aloadQ_n (i := 0) (q := 3) dX2_isShow_2 rfl rfl rfl ?_
  refine aw_getfield (q := 6) dX2_isShow_3 gf_X2_7_2 (by assumption) rfl rfl ?_
  refine aw_bipush (v := 9) (q := 8) dX2_isShow_6 rfl rfl ?_
  refine aw_iald (q := 9) (v := P 0 0 9) (9) dX2_isShow_8 (by assumption) (by first | assumption | (simp only [← nI_add, ← pk_mul]; rfl) | rfl) (by omega) (by omega) (hT.2.1.g (by omega)) rfl ?_
  refine aw_iconst (v := 1) (q := 10) dX2_isShow_9 rfl rfl ?_
  refine aw_isub (q := 11) dX2_isShow_10 rfl ?_
  refine aw_callS (q := 14) dX2_isShow_11 (C2_in) cs_X2_49 rfl rfl (by decide) (by decide) (by first | exact Nat.le_of_ble_eq_true rfl | simp [zcat_rf, Value.category]) rfl (zpk ?_)
  exact aw_ireturn dX2_isShow_14 rfl (by first | rfl | exact zB_nar _) (⟨rfl, rfl⟩)
theorem C2_isBooking {k : Int32} (hT : zTP G μ m lam K P) : Meets G 2 MX2_isBooking [.ref m, .int k] μ (zPure (.int (tIn k 0 (P 0 0 10 - 1))) μ) 0 0 := by
  have hm := hT.m
  have h1 := hT.a1
  refine meets_of (by decide +kernel) (Nat.le_of_ble_eq_true rfl) ?_
  refine aw_iload_n (i := 1) (q := 1) dX2_isBooking_0 rfl rfl rfl ?_
  refine aw_iconst (v := 0) (q := 2) dX2_isBooking_1 rfl rfl ?_
  first | refine aw_aload_n (i := 0) (q := 3) dX2_isBooking_2 rfl rfl rfl ?_ | refine aw_aloadN_n (i := 0) (q := 3) dX2_isBooking_2 rfl rfl rfl ?_ | refine aw_aloadQ_n (i := 0) (q := 3) dX2_isBooking_2 rfl rfl rfl ?_
  refine aw_getfield (q := 6) dX2_isBooking_3 gf_X2_7_2 (by assumption) rfl rfl ?_
  refine aw_bipush (v := 10) (q := 8) dX2_isBooking_6 rfl rfl ?_
  refine aw_iald (q := 9) (v := P 0 0 10) (10) dX2_isBooking_8 (by assumption) (by first | assumption | (simp only [← nI_add, ← pk_mul]; rfl) | rfl) (by omega) (by omega) (hT.2.1.g (by omega)) rfl ?_
  refine aw_iconst (v := 1) (q := 10) dX2_isBooking_9 rfl rfl ?_
  refine aw_isub (q := 11) dX2_isBooking_10 rfl ?_
  refine aw_callS (q := 14) dX2_isBooking_11 (C2_in) cs_X2_49 rfl rfl (by decide) (by decide) (by first | exact Nat.le_of_ble_eq_true rfl | simp [zcat_rf, Value.category]) rfl (zpk ?_)
  exact aw_ireturn dX2_isBooking_14 rfl (by first | rfl | exact zB_nar _) (⟨rfl, rfl⟩)
theorem C2_isPromise {k : Int32} (hT : zTP G μ m lam K P) : Meets G 2 MX2_isPromise [.ref m, .int k] μ (zPure (.int (tIn k 0 (P 0 0 12 - 1))) μ) 0 0 := by
  have hm := hT.m
  have h1 := hT.a1
  refine meets_of (by decide +kernel) (Nat.le_of_ble_eq_true rfl) ?_
  refine aw_iload_n (i := 1) (q := 1) dX2_isPromise_0 rfl rfl rfl ?_
  refine aw_iconst (v := 0) (q := 2) dX2_isPromise_1 rfl rfl ?_
  first | refine aw_aload_n (i := 0) (q := 3) dX2_isPromise_2 rfl rfl rfl ?_ | refine aw_aloadN_n (i := 0) (q := 3) dX2_isPromise_2 rfl rfl rfl ?_ | refine aw_aloadQ_n (i := 0) (q := 3) dX2_isPromise_2 rfl rfl rfl ?_
  refine aw_getfield (q := 6) dX2_isPromise_3 gf_X2_7_2 (by assumption) rfl rfl ?_
  refine aw_bipush (v := 12) (q := 8) dX2_isPromise_6 rfl rfl ?_
  refine aw_iald (q := 9) (v := P 0 0 12) (12) dX2_isPromise_8 (by assumption) (by first | assumption | (simp only [← nI_add, ← pk_mul]; rfl) | rfl) (by omega) (by omega) (hT.2.1.g (by omega)) rfl ?_
  refine aw_iconst (v := 1) (q := 10) dX2_isPromise_9 rfl rfl ?_
  refine aw_isub (q := 11) dX2_isPromise_10 rfl ?_
  refine aw_callS (q := 14) dX2_isPromise_11 (C2_in) cs_X2_49 rfl rfl (by decide) (by decide) (by first | exact Nat.le_of_ble_eq_true rfl | simp [zcat_rf, Value.category]) rfl (zpk ?_)
  exact aw_ireturn dX2_isPromise_14 rfl (by first | rfl | exact zB_nar _) (⟨rfl, rfl⟩)
theorem C2_ofShow {s c : Nat} {x y : Int32} (hT : zTP G μ m lam K P) (hx : x = nI s) (hy : y = nI c) (hs : s < 60) (hc : c < 7) : Meets G 1 MX2_ofShow [.ref m, .int x, .int y] μ (zPure (.int (P 3 s c)) μ) 0 0 := by
  subst hx hy
  have hm := hT.m
  have h1 := hT.a1
  refine meets_of (by decide +kernel) (Nat.le_of_ble_eq_true rfl) ?_
  first | refine aw_aload_n (i := 0) (q := 1) dX2_ofShow_0 rfl rfl rfl ?_ | refine aw_aloadN_n (i := 0) (q := 1) dX2_ofShow_0 rfl rfl rfl ?_ | refine aw_aloadQ_n (i := 0) (q := 1) dX2_ofShow_0 rfl rfl rfl ?_
  refine aw_getfield (q := 4) dX2_ofShow_1 gf_X2_7_2 (by assumption) rfl rfl ?_
  refine aw_bipush (v := 100) (q := 6) dX2_ofShow_4 rfl rfl ?_
  refine aw_bipush (v := 7) (q := 8) dX2_ofShow_6 rfl rfl ?_
  refine aw_iload_n (i := 1) (q := 9) dX2_ofShow_8 rfl rfl rfl ?_
  refine aw_imul (q := 10) dX2_ofShow_9 rfl ?_
  refine aw_iadd (q := 11) dX2_ofShow_10 rfl ?_
  refine aw_iload_n (i := 2) (q := 12) dX2_ofShow_11 rfl rfl rfl ?_
  refine aw_iadd (q := 13) dX2_ofShow_12 rfl ?_
  refine aw_iald (q := 14) (v := P 3 s c) (100 + 7 * s + c) dX2_ofShow_13 (by assumption) (by first | assumption | (simp only [← nI_add, ← pk_mul]; rfl) | rfl) (by omega) (by omega) (hT.2.1.sh hs hc) rfl ?_
  exact aw_ireturn dX2_ofShow_14 rfl (by first | rfl | exact zB_nar _) (⟨rfl, rfl⟩)
theorem C2_ofBooking {s c : Nat} {x y : Int32} (hT : zTP G μ m lam K P) (hx : x = nI s) (hy : y = nI c) (hs : s < 80) (hc : c < 16) : Meets G 1 MX2_ofBooking [.ref m, .int x, .int y] μ (zPure (.int (P 4 s c)) μ) 0 0 := by
  subst hx hy
  have hm := hT.m
  have h1 := hT.a1
  refine meets_of (by decide +kernel) (Nat.le_of_ble_eq_true rfl) ?_
  first | refine aw_aload_n (i := 0) (q := 1) dX2_ofBooking_0 rfl rfl rfl ?_ | refine aw_aloadN_n (i := 0) (q := 1) dX2_ofBooking_0 rfl rfl rfl ?_ | refine aw_aloadQ_n (i := 0) (q := 1) dX2_ofBooking_0 rfl rfl rfl ?_
  refine aw_getfield (q := 4) dX2_ofBooking_1 gf_X2_7_2 (by assumption) rfl rfl ?_
  refine aw_sipush (v := 520) (q := 7) dX2_ofBooking_4 rfl rfl ?_
  refine aw_bipush (v := 16) (q := 9) dX2_ofBooking_7 rfl rfl ?_
  refine aw_iload_n (i := 1) (q := 10) dX2_ofBooking_9 rfl rfl rfl ?_
  refine aw_imul (q := 11) dX2_ofBooking_10 rfl ?_
  refine aw_iadd (q := 12) dX2_ofBooking_11 rfl ?_
  refine aw_iload_n (i := 2) (q := 13) dX2_ofBooking_12 rfl rfl rfl ?_
  refine aw_iadd (q := 14) dX2_ofBooking_13 rfl ?_
  refine aw_iald (q := 15) (v := P 4 s c) (520 + 16 * s + c) dX2_ofBooking_14 (by assumption) (by first | assumption | (simp only [← nI_add, ← pk_mul]; rfl) | rfl) (by omega) (by omega) (hT.2.1.bk hs hc) rfl ?_
  exact aw_ireturn dX2_ofBooking_15 rfl (by first | rfl | exact zB_nar _) (⟨rfl, rfl⟩)
theorem C2_fitted (hT : zTP G μ m lam K P) : Meets G 1 MX2_fitted [.ref m] μ (zPure (.int (tFit P)) μ) 0 0 := by
  have hm := hT.m
  have h1 := hT.a1
  obtain ⟨hn, hN⟩ := hT.2.2.l
  refine meets_of (by decide +kernel) (Nat.le_of_ble_eq_true rfl) ?_
  refine aw_bipush (v := (-6)) (q := 2) dX2_fitted_0 rfl rfl ?_
  refine aw_istore_n (i := 1) (q := 3) dX2_fitted_2 rfl (by decide) rfl ?_
  refine aw_iconst (v := 0) (q := 4) dX2_fitted_3 rfl rfl ?_
  refine aw_istore_n (i := 2) (q := 5) dX2_fitted_4 rfl (by decide) rfl ?_
  have loop : ∀ n l, l + n = pcn P 8 → AW G 1 MX2_fitted (zPure (.int (tFit P)) μ) 0 0 5 [(0, .ref m), (1, .int (tFitted P l)), (2, .int (nI l))] [] μ := by
    intro n
    induction n with
    | zero =>
      intro l hl
      refine aw_iload_n (i := 2) (q := 6) dX2_fitted_5 rfl rfl rfl ?_
      first | refine aw_aload_n (i := 0) (q := 7) dX2_fitted_6 rfl rfl rfl ?_ | refine aw_aloadN_n (i := 0) (q := 7) dX2_fitted_6 rfl rfl rfl ?_ | refine aw_aloadQ_n (i := 0) (q := 7) dX2_fitted_6 rfl rfl rfl ?_
      refine aw_getfield (q := 10) dX2_fitted_7 gf_X2_7_2 (by assumption) rfl rfl ?_
      refine aw_bipush (v := 8) (q := 12) dX2_fitted_10 rfl rfl ?_
      refine aw_iald (q := 13) (v := nI (pcn P 8)) (8) dX2_fitted_12 (by assumption) (by first | assumption | (simp only [← nI_add, ← pk_mul]; rfl) | rfl) (by omega) (by omega) ((hT.2.1.g (by omega)).trans hn) rfl ?_
      refine aw_icmp_ge (tgt := 45) (q := 16) dX2_fitted_13 (by decide) rfl (fun _ => ?_) (fun hc => absurd (nI_le (by omega) (by omega)) hc)
      refine aw_iload_n (i := 1) (q := 46) dX2_fitted_45 rfl rfl rfl ?_
      exact aw_ireturn dX2_fitted_46 rfl (by first | rfl | exact zB_nar _) (by refine ⟨?_, rfl⟩; rw [tFit, show pcn P 8 = l by omega])
    | succ n ih =>
      intro l hl
      have hlt : l < pcn P 8 := by omega
      refine aw_iload_n (i := 2) (q := 6) dX2_fitted_5 rfl rfl rfl ?_
      first | refine aw_aload_n (i := 0) (q := 7) dX2_fitted_6 rfl rfl rfl ?_ | refine aw_aloadN_n (i := 0) (q := 7) dX2_fitted_6 rfl rfl rfl ?_ | refine aw_aloadQ_n (i := 0) (q := 7) dX2_fitted_6 rfl rfl rfl ?_
      refine aw_getfield (q := 10) dX2_fitted_7 gf_X2_7_2 (by assumption) rfl rfl ?_
      refine aw_bipush (v := 8) (q := 12) dX2_fitted_10 rfl rfl ?_
      refine aw_iald (q := 13) (v := nI (pcn P 8)) (8) dX2_fitted_12 (by assumption) (by first | assumption | (simp only [← nI_add, ← pk_mul]; rfl) | rfl) (by omega) (by omega) ((hT.2.1.g (by omega)).trans hn) rfl ?_
      refine aw_icmp_ge (tgt := 45) (q := 16) dX2_fitted_13 (by decide) rfl (fun hc => absurd hc (nI_ge hlt (by omega))) (fun _ => ?_)
      first | refine aw_aload_n (i := 0) (q := 17) dX2_fitted_16 rfl rfl rfl ?_ | refine aw_aloadN_n (i := 0) (q := 17) dX2_fitted_16 rfl rfl rfl ?_ | refine aw_aloadQ_n (i := 0) (q := 17) dX2_fitted_16 rfl rfl rfl ?_
      refine aw_getfield (q := 20) dX2_fitted_17 gf_X2_7_2 (by assumption) rfl rfl ?_
      refine aw_bipush (v := 50) (q := 22) dX2_fitted_20 rfl rfl ?_
      refine aw_iconst (v := 4) (q := 23) dX2_fitted_22 rfl rfl ?_
      refine aw_iload_n (i := 2) (q := 24) dX2_fitted_23 rfl rfl rfl ?_
      refine aw_imul (q := 25) dX2_fitted_24 rfl ?_
      refine aw_iadd (q := 26) dX2_fitted_25 rfl ?_
      refine aw_iconst (v := 2) (q := 27) dX2_fitted_26 rfl rfl ?_
      refine aw_iadd (q := 28) dX2_fitted_27 rfl ?_
      refine aw_iald (q := 29) (v := P 2 l 2) (50 + 4 * l + 2) dX2_fitted_28 (by assumption) (by first | assumption | (simp only [← nI_add, ← pk_mul]; rfl) | rfl) (by omega) (by omega) (hT.2.1.la (by omega) (by omega)) rfl ?_
      refine aw_iconst (v := 1) (q := 30) dX2_fitted_29 rfl rfl ?_
      refine aw_icmp_ne (tgt := 37) (q := 33) dX2_fitted_30 (by decide) rfl (fun hc => ?_) (fun hc => ?_)
      · refine aw_iload_n (i := 1) (q := 38) dX2_fitted_37 rfl rfl rfl ?_
        refine aw_istore_n (i := 1) (q := 39) dX2_fitted_38 rfl (by decide) rfl ?_
        refine aw_iinc (q := 42) dX2_fitted_39 rfl (by first | exact nI_1 _ | rfl) (by decide) rfl ?_
        refine aw_goto (tgt := 5) dX2_fitted_42 (by decide) ?_
        exact aw_locals (by exact ⟨rfl, by simp [tFitted, hc, zget, zput, zdel], rfl, trivial⟩) (ih (l + 1) (by omega))
      · refine aw_iload_n (i := 2) (q := 34) dX2_fitted_33 rfl rfl rfl ?_
        refine aw_goto (tgt := 38) dX2_fitted_34 (by decide) ?_
        refine aw_istore_n (i := 1) (q := 39) dX2_fitted_38 rfl (by decide) rfl ?_
        refine aw_iinc (q := 42) dX2_fitted_39 rfl (by first | exact nI_1 _ | rfl) (by decide) rfl ?_
        refine aw_goto (tgt := 5) dX2_fitted_42 (by decide) ?_
        exact aw_locals (by exact ⟨rfl, by simp [tFitted, hc, zget, zput, zdel], rfl, trivial⟩) (ih (l + 1) (by omega))
  exact aw_locals (by exact ⟨rfl, rfl, rfl, trivial⟩) (loop (pcn P 8) 0 (by omega))
end ZTW1
