/-! THE TWIN, part 29: carryOut -/
set_option maxRecDepth 100000
abbrev tKnd (x : Int32) : Prop := x = 112 ∨ x = 101 ∨ x = 98
theorem tOne_kind {g : Nat → Int32} {a : Nat} (h : (tOne g a).1 = false) : tKnd ((tOne g a).2.2 0) := by
  unfold tOne at h ⊢
  by_cases hc : g a = 112 ∨ g a = 101 ∨ g a = 98
  · rw [if_pos hc]
    by_cases h98 : g a = 98
    · rw [if_pos h98]; exact Or.inr (Or.inr rfl)
    · rw [if_neg h98]; exact hc
  · rw [if_neg hc] at h
    cases h
theorem tFol_kind {g : Nat → Int32} {nt : Nat} : ∀ f w a n o, (w = false → ∀ i, i < n → tKnd (o i 0)) → (tFol g nt f w a n o).1 = false → ∀ i, i < (tFol g nt f w a n o).2.2.1 → tKnd ((tFol g nt f w a n o).2.2.2 i 0)
  | 0, w, a, n, o, h, hw => h hw
  | f + 1, w, a, n, o, h, hw => by
    unfold tFol at hw ⊢
    by_cases h1 : w = false ∧ a < nt
    · rw [if_pos h1] at hw ⊢
      by_cases h2 : tNW g false a 59 = true
      · rw [if_pos h2] at hw; cases hw
      · rw [if_neg h2] at hw ⊢
        refine tFol_kind f _ _ _ _ (fun q i hi => ?_) hw
        by_cases e : i = n
        · rw [if_pos e]; exact tOne_kind q
        · rw [if_neg e]; exact h h1.1 i (by omega)
    · rw [if_neg h1] at hw ⊢
      exact h hw
theorem tReadX_kind {R : tR} (h : (tReadX R).1 = false) : ∀ i, i < (tReadX R).2.2.1 → tKnd ((tReadX R).2.2.2 i 0) :=
  tFol_kind 81 _ _ _ _ (fun q _ _ => tOne_kind q) h
theorem tFol_lt {g : Nat → Int32} {nt : Nat} (hnt : nt ≤ 80) : ∀ f w a n o, a < 2 ^ 20 → (tFol g nt f w a n o).2.1 < 2 ^ 20
  | 0, w, a, n, o, h => h
  | f + 1, w, a, n, o, h => by
    unfold tFol
    by_cases h1 : w = false ∧ a < nt
    · rw [if_pos h1]
      by_cases h2 : tNW g false a 59 = true
      · rw [if_pos h2]; exact h
      · rw [if_neg h2]
        exact tFol_lt hnt f _ _ _ _ (tOne_lt (by omega))
    · rw [if_neg h1]; exact h
theorem tReadX_lt {R : tR} (h : R.2.2.1.1 ≤ 80) : (tReadX R).2.1 < 2 ^ 20 := tFol_lt h 81 _ _ _ _ (tOne_lt (by decide))
/-- orders carried out, from the n-th on: the row of numbers, how many -/
def tCarN (R : tR) (o : Nat → Nat → Int32) : Nat → zP → Nat → zP × Nat
  | 0, P, n => (P, n)
  | f + 1, P, n => if (tCarry P R (o n)).2.2 < 0 then ((tCarry P R (o n)).1, n) else tCarN R o f (tCarry P R (o n)).1 (n + 1)
def tFl (R : tR) (b : Bool) : tR := (R.1, R.2.1, R.2.2.1, b)
def tCarryOut (P : zP) (R : tR) : tT := if (tReadX R).1 then (P, R, -3) else ((tCarN (tFl (tRec P R) true) (tReadX R).2.2.2 (tReadX R).2.2.1 P 0).1, ((tRec P R).1, R.2.1, (0, R.2.2.1.2), false), nI (tCarN (tFl (tRec P R) true) (tReadX R).2.2.2 (tReadX R).2.2.1 P 0).2)
section ZTW29
variable {G : zG} {μ : zM} {m : Nat} {lam : Nat → Nat} {K : Nat → Nat → Int32} {P : zP} {R : tR}
theorem tRec_2 {P : zP} {R : tR} : (tRec P R).2 = R.2 := by
  unfold tRec
  split
  · rfl
  · split <;> rfl
/-- in a text nothing is recorded: R stays -/
theorem tCarry_R {P : zP} {R : tR} {o : Nat → Int32} (h : R.2.2.2 = true) : (tCarry P R o).2.1 = R := by
  have hr : ∀ Q, tRec Q R = R := fun Q => if_pos h
  unfold tCarry tPlanC tEventC tBookC
  simp only [hr]
  repeat' split
  all_goals rfl
theorem C2_carryOut (W : zP → Prop) (hW1 : ∀ P, W P → tPI P) (hW2 : ∀ P R o, W P → W (tCarry P R o).1) (hW : W P) (hS : zTS G μ m lam K P R) (hfl : R.2.2.2 = false) : Meets G 9 MX2_carryOut [.ref m] μ (tPub0 G μ m lam (tCarryOut P R)) 0 0 := by
  have hm := hS.1.m
  refine meets_of (by decide +kernel) (Nat.le_of_ble_eq_true rfl) ?_
  first | refine aw_aload_n (i := 0) (q := 1) dX2_carryOut_0 rfl rfl rfl ?_ | refine aw_aloadN_n (i := 0) (q := 1) dX2_carryOut_0 rfl rfl rfl ?_ | refine aw_aloadQ_n (i := 0) (q := 1) dX2_carryOut_0 rfl rfl rfl ?_
  refine aw_callV (q := 4) dX2_carryOut_1 (C2_faultOf hS) cv_X2_211_2 (by assumption) rfl rfl (by decide) (by decide) (by first | exact Nat.le_of_ble_eq_true rfl | simp [zcat_rf, Value.category]) rfl (fun v1 μ1 hp => ?_)
  obtain ⟨rfl, ⟨K1, hS1, hor⟩, hk1⟩ := hp
  have hm := hS1.1.m
  refine aw_bipush (v := (-6)) (q := 6) dX2_carryOut_4 rfl rfl ?_
  cases hw : (tReadX R).1 with
  | true =>
    have e0 : tCarryOut P R = (P, R, -3) := if_pos hw
    have ef : tFault R = nI (tReadX R).2.1 := by rw [tFault, hw, if_pos rfl]
    have hlt := tReadX_lt (R := R) hS.2.2.2.2.2.2.2.1
    refine aw_icmp_eq (tgt := 12) (q := 9) dX2_carryOut_6 (by decide) rfl (fun hc => absurd hc (fun q => by (rw [ef] at q; exact nI_pos (n := (tReadX R).2.1) (by omega) (by rw [q]; decide)))) (fun _ => ?_)
    refine aw_bipush (v := (-3)) (q := 11) dX2_carryOut_9 rfl rfl ?_
    exact aw_ireturn dX2_carryOut_11 rfl (by first | rfl | exact zB_nar _) (tPub0.of hS1.1 hS1.2 hk1 e0)
  | false =>
    obtain ⟨o4, ocnt, oo⟩ := hor hw
    have okd := tReadX_kind hw
    have ef : tFault R = -6 := by rw [tFault, hw, if_neg (by decide)]
    have e0 : tCarryOut P R = ((tCarN (tFl (tRec P R) true) (tReadX R).2.2.2 (tReadX R).2.2.1 P 0).1, ((tRec P R).1, R.2.1, (0, R.2.2.1.2), false), nI (tCarN (tFl (tRec P R) true) (tReadX R).2.2.2 (tReadX R).2.2.1 P 0).2) := by rw [tCarryOut, hw, if_neg (by decide)]
    rw [e0]
    generalize (tReadX R).2.2.2 = o at oo okd ⊢
    generalize (tReadX R).2.2.1 = cnt at o4 ocnt oo okd ⊢
    rw [ef]
    refine aw_icmp_eq (tgt := 12) (q := 9) dX2_carryOut_6 (by decide) rfl (fun _ => ?_) (fun hc => absurd (rfl) hc)
    first | refine aw_aload_n (i := 0) (q := 13) dX2_carryOut_12 rfl rfl rfl ?_ | refine aw_aloadN_n (i := 0) (q := 13) dX2_carryOut_12 rfl rfl rfl ?_ | refine aw_aloadQ_n (i := 0) (q := 13) dX2_carryOut_12 rfl rfl rfl ?_
    refine aw_callV (q := 16) dX2_carryOut_13 (C2_record hS1) cv_X2_53_2 (by assumption) rfl rfl (by decide) (by decide) (by first | exact Nat.le_of_ble_eq_true rfl | simp [zcat_rf, Value.category]) rfl (fun v13 μ2 hp => ?_)
    obtain ⟨rfl, ⟨K2, ⟨hT2, hr2⟩, e1, hf⟩, hk2⟩ := hp
    have hm := hT2.m
    first | refine aw_aload_n (i := 0) (q := 17) dX2_carryOut_16 rfl rfl rfl ?_ | refine aw_aloadN_n (i := 0) (q := 17) dX2_carryOut_16 rfl rfl rfl ?_ | refine aw_aloadQ_n (i := 0) (q := 17) dX2_carryOut_16 rfl rfl rfl ?_
    refine aw_iconst (v := 1) (q := 18) dX2_carryOut_17 rfl rfl ?_
    refine aw_putfield (q := 21) dX2_carryOut_18 gf_X2_41_2 hm (by first | assumption | simp) (by first | rfl | exact znar_rf _ _) (by first | rfl | exact zfit_rf _ _) (Nat.le_of_ble_eq_true rfl) rfl (fun μ3 hg_μ3 => ?_)
    have hm : μ3 _ = some _ := hg_μ3 ▸ updM_eq _ _ _
    simp only [List.set] at hm hg_μ3
    obtain ⟨hT3, hk3⟩ := hT2.1.sc' 2 1 hg_μ3
    have hT3 := hT2.other hT3 (setK_ne (by decide))
    have hr3 : tRest (setK K2 0 (upd (K2 0) 2 1)) (tFl (tRec P R) true) := ⟨hr2.1, hr2.2.1, hr2.2.2.1, hr2.2.2.2.1, hr2.2.2.2.2.1, hr2.2.2.2.2.2.1, hr2.2.2.2.2.2.2.1, rfl⟩
    have h2R : (tRec P R).2 = R.2 := tRec_2
    refine aw_iconst (v := 0) (q := 22) dX2_carryOut_21 rfl rfl ?_
    refine aw_istore_n (i := 1) (q := 23) dX2_carryOut_22 rfl (by decide) rfl ?_
    generalize hX : tCarN (tFl (tRec P R) true) o cnt P 0 = X
    have loop : ∀ f P2 n, n + f = cnt → W P2 → tCarN (tFl (tRec P R) true) o f P2 n = X → ∀ (μ4 : zM) (K4 : Nat → Nat → Int32), zTS G μ4 m lam K4 P2 (tFl (tRec P R) true) → K4 0 4 = nI cnt → (∀ i, i < cnt → ∀ c, c < 5 → (c < 4 ∨ o i 0 = 98) → K4 10 (5 * i + c) = o i c) → zKp tTw μ μ4 → AW G 9 MX2_carryOut (tPub0 G μ m lam (X.1, ((tRec P R).1, R.2.1, (0, R.2.2.1.2), false), nI X.2)) 0 0 23 [(0, .ref m), (1, .int (nI n))] [] μ4 := by
      have stop : ∀ P2 n, (P2, n) = X → ∀ (μ4 : zM) (K4 : Nat → Nat → Int32), zTS G μ4 m lam K4 P2 (tFl (tRec P R) true) → zKp tTw μ μ4 → AW G 9 MX2_carryOut (tPub0 G μ m lam (X.1, ((tRec P R).1, R.2.1, (0, R.2.2.1.2), false), nI X.2)) 0 0 47 [(0, .ref m), (1, .int (nI n))] [] μ4 := by
        intro P2 n hX μ4 K4 hS hk
        subst hX
        have hm := hS.1.m
        first | refine aw_aload_n (i := 0) (q := 48) dX2_carryOut_47 rfl rfl rfl ?_ | refine aw_aloadN_n (i := 0) (q := 48) dX2_carryOut_47 rfl rfl rfl ?_ | refine aw_aloadQ_n (i := 0) (q := 48) dX2_carryOut_47 rfl rfl rfl ?_
        refine aw_iconst (v := 0) (q := 49) dX2_carryOut_48 rfl rfl ?_
        refine aw_putfield (q := 52) dX2_carryOut_49 gf_X2_41_2 hm (by first | assumption | simp) (by first | rfl | exact znar_rf _ _) (by first | rfl | exact zfit_rf _ _) (Nat.le_of_ble_eq_true rfl) rfl (fun μ5 hg_μ5 => ?_)
        have hm : μ5 _ = some _ := hg_μ5 ▸ updM_eq _ _ _
        simp only [List.set] at hm hg_μ5
        obtain ⟨hT5, hk5⟩ := hS.1.1.sc' 2 0 hg_μ5
        first | refine aw_aload_n (i := 0) (q := 53) dX2_carryOut_52 rfl rfl rfl ?_ | refine aw_aloadN_n (i := 0) (q := 53) dX2_carryOut_52 rfl rfl rfl ?_ | refine aw_aloadQ_n (i := 0) (q := 53) dX2_carryOut_52 rfl rfl rfl ?_
        refine aw_iconst (v := 0) (q := 54) dX2_carryOut_53 rfl rfl ?_
        refine aw_putfield (q := 57) dX2_carryOut_54 gf_X2_167_2 hm (by first | assumption | simp) (by first | rfl | exact znar_rf _ _) (by first | rfl | exact zfit_rf _ _) (Nat.le_of_ble_eq_true rfl) rfl (fun μ6 hg_μ6 => ?_)
        have hm : μ6 _ = some _ := hg_μ6 ▸ updM_eq _ _ _
        simp only [List.set] at hm hg_μ6
        obtain ⟨hT6, hk6⟩ := hT5.sc' 1 0 hg_μ6
        have hT6 := hS.1.other hT6 rfl
        refine aw_iload_n (i := 1) (q := 58) dX2_carryOut_57 rfl rfl rfl ?_
        have hr6 : tRest (setK (setK K4 0 (upd (K4 0) 2 0)) 0 (upd (setK K4 0 (upd (K4 0) 2 0) 0) 1 0)) ((tRec P R).1, R.2.1, (0, R.2.2.1.2), false) := ⟨hS.2.1, hS.2.2.1, hS.2.2.2.1, by (rw [← h2R]; exact hS.2.2.2.2.1), fun j hj => by (have : j < 0 := hj; omega), rfl, Nat.zero_le _, rfl⟩
        exact aw_ireturn dX2_carryOut_58 rfl (by first | rfl | exact zB_nar _) (tPub0.of hT6 hr6 ((hk.tr hk5).tr hk6) rfl)
      intro f
      induction f with
      | zero =>
        intro P2 n hn hW he μ4 K4 hS h4 h10 hk
        have hm := hS.1.m
        refine aw_iload_n (i := 1) (q := 24) dX2_carryOut_23 rfl rfl rfl ?_
        first | refine aw_aload_n (i := 0) (q := 25) dX2_carryOut_24 rfl rfl rfl ?_ | refine aw_aloadN_n (i := 0) (q := 25) dX2_carryOut_24 rfl rfl rfl ?_ | refine aw_aloadQ_n (i := 0) (q := 25) dX2_carryOut_24 rfl rfl rfl ?_
        refine aw_getfield (q := 28) dX2_carryOut_25 gf_X2_197_2 (by assumption) rfl rfl ?_
        rw [h4]
        refine aw_icmp_ge (tgt := 47) (q := 31) dX2_carryOut_28 (by decide) rfl (fun _ => ?_) (fun hc => absurd (nI_le (by omega) (by omega)) hc)
        exact aw_locals (by exact ⟨rfl, rfl, trivial⟩) (stop P2 n he μ4 K4 hS hk)
      | succ f ih =>
        intro P2 n hn hW he μ4 K4 hS h4 h10 hk
        have hm := hS.1.m
        have hstep : (if (tCarry P2 (tFl (tRec P R) true) (o n)).2.2 < 0 then ((tCarry P2 (tFl (tRec P R) true) (o n)).1, n) else tCarN (tFl (tRec P R) true) o f (tCarry P2 (tFl (tRec P R) true) (o n)).1 (n + 1)) = X := he
        have hRR : (tCarry P2 (tFl (tRec P R) true) (o n)).2.1 = tFl (tRec P R) true := tCarry_R rfl
        have hW3 := hW2 P2 (tFl (tRec P R) true) (o n) hW
        refine aw_iload_n (i := 1) (q := 24) dX2_carryOut_23 rfl rfl rfl ?_
        first | refine aw_aload_n (i := 0) (q := 25) dX2_carryOut_24 rfl rfl rfl ?_ | refine aw_aloadN_n (i := 0) (q := 25) dX2_carryOut_24 rfl rfl rfl ?_ | refine aw_aloadQ_n (i := 0) (q := 25) dX2_carryOut_24 rfl rfl rfl ?_
        refine aw_getfield (q := 28) dX2_carryOut_25 gf_X2_197_2 (by assumption) rfl rfl ?_
        rw [h4]
        refine aw_icmp_ge (tgt := 47) (q := 31) dX2_carryOut_28 (by decide) rfl (fun hc => absurd hc (nI_ge (b := cnt) (a := n) (by omega) (by omega))) (fun _ => ?_)
        first | refine aw_aload_n (i := 0) (q := 32) dX2_carryOut_31 rfl rfl rfl ?_ | refine aw_aloadN_n (i := 0) (q := 32) dX2_carryOut_31 rfl rfl rfl ?_ | refine aw_aloadQ_n (i := 0) (q := 32) dX2_carryOut_31 rfl rfl rfl ?_
        refine aw_iconst (v := 5) (q := 33) dX2_carryOut_32 rfl rfl ?_
        refine aw_iload_n (i := 1) (q := 34) dX2_carryOut_33 rfl rfl rfl ?_
        refine aw_imul (q := 35) dX2_carryOut_34 rfl ?_
        refine aw_callV (q := 38) dX2_carryOut_35 (C2_carry (i := n) (o := o n) hS (hW1 _ hW) (pk_mul 5 n) (by omega) (h10 n (by omega)) (okd n (by omega))) cv_X2_224_2 (by assumption) rfl rfl (by decide) (by decide) (by first | exact Nat.le_of_ble_eq_true rfl | simp [zcat_rf, Value.category]) rfl (fun v35 μ5 hp => ?_)
        obtain ⟨rfl, ⟨K5, hS5, hf5⟩, hk5⟩ := hp
        rw [hRR] at hS5
        refine aw_if_lt (tgt := 47) (q := 41) dX2_carryOut_38 (by decide) rfl (fun hc => ?_) (fun hc => ?_)
        · skip
          rw [if_pos hc] at hstep
          exact aw_locals (by exact ⟨rfl, rfl, trivial⟩) (stop _ n hstep μ5 K5 hS5 (hk.tr hk5))
        · refine aw_iinc (q := 44) dX2_carryOut_41 rfl (by first | exact nI_1 _ | rfl) (by decide) rfl ?_
          refine aw_goto (tgt := 23) dX2_carryOut_44 (by decide) ?_
          rw [if_neg hc] at hstep
          exact aw_locals (by exact ⟨rfl, rfl, trivial⟩) (ih _ (n + 1) (by omega) hW3 hstep μ5 K5 hS5 ((hf5.2 4 (by decide)).trans h4) (fun i hi c c1 c2 => by (rw [hf5.1]; exact h10 i hi c c1 c2)) (hk.tr hk5))
    exact aw_locals (by exact ⟨rfl, rfl, trivial⟩) (loop cnt P 0 (by omega) hW hX μ3 _ ⟨hT3, hr3⟩ ((hf.2 4 (by decide)).trans o4) (fun i hi c c1 c2 => by (show K2 10 _ = _; rw [hf.1]; exact oo i hi c c1 c2)) ((hk1.tr hk2).tr hk3))
end ZTW29
