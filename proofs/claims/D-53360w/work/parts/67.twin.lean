/-! THE TWIN, part 26: texts: faultOf, fault -/
set_option maxRecDepth 100000
theorem tOne_ge {g : Nat → Int32} {a : Nat} (h : (tOne g a).1 = false) : a + 1 ≤ (tOne g a).2.1 := by
  unfold tOne at h ⊢
  split
  · have l0 : a + 1 ≤ (tNbr g false (a + 1)).2.1 := tNbr_le.1
    generalize tNbr g false (a + 1) = n1 at l0 ⊢
    split
    · have l1 : n1.2.1 ≤ tAt (tB_w2 g n1) n1.2.1 := tAt_le.1
      have l2 : tAt (tB_w2 g n1) n1.2.1 ≤ (tB_n2 g n1).2.1 := tNbr_le.1
      have l3 : (tB_n2 g n1).2.1 ≤ tB_a4 g (tB_n2 g n1) := by
        unfold tB_a4
        split
        · have := (tAt_le (w := tB_w4 g (tB_n2 g n1)) (a := (tB_n2 g n1).2.1 + 1)).1; omega
        · exact Nat.le_refl _
      show a + 1 ≤ (if tB_b g (tB_n2 g n1) then tB_a4 g (tB_n2 g n1) + 1 else tB_a4 g (tB_n2 g n1))
      split <;> omega
    · have l2 : n1.2.1 ≤ tE_a2 g n1 := tAt_le.1
      have l3 : tE_a2 g n1 ≤ tE_a3 g n1 := tAt_le.1
      have l4 : tE_a3 g n1 ≤ tE_a4 g (g a) n1 := tAt_le.1
      have l5 : tE_a4 g (g a) n1 ≤ (tOneE g (g a) n1).2.1 := tAt_le.1
      omega
  · rename_i hc
    rw [if_neg hc] at h
    cases h
theorem tOne_lt {g : Nat → Int32} {a : Nat} (h : a < 2 ^ 19) : (tOne g a).2.1 < 2 ^ 20 := by
  unfold tOne
  split
  · have l0 : (tNbr g false (a + 1)).2.1 ≤ a + 1 + 4 := tNbr_le.2
    generalize tNbr g false (a + 1) = n1 at l0 ⊢
    split
    · have l1 : tAt (tB_w2 g n1) n1.2.1 ≤ n1.2.1 + 1 := tAt_le.2
      have l2 : (tB_n2 g n1).2.1 ≤ tAt (tB_w2 g n1) n1.2.1 + 4 := tNbr_le.2
      have l3 : tB_a4 g (tB_n2 g n1) ≤ (tB_n2 g n1).2.1 + 2 := by
        unfold tB_a4
        split
        · have := (tAt_le (w := tB_w4 g (tB_n2 g n1)) (a := (tB_n2 g n1).2.1 + 1)).2; omega
        · omega
      show (if tB_b g (tB_n2 g n1) then tB_a4 g (tB_n2 g n1) + 1 else tB_a4 g (tB_n2 g n1)) < 2 ^ 20
      split <;> omega
    · have l2 : tE_a2 g n1 ≤ n1.2.1 + 1 := tAt_le.2
      have l3 : tE_a3 g n1 ≤ tE_a2 g n1 + 1 := tAt_le.2
      have l4 : tE_a4 g (g a) n1 ≤ tE_a3 g n1 + 1 := tAt_le.2
      have l5 : (tOneE g (g a) n1).2.1 ≤ tE_a4 g (g a) n1 + 1 := tAt_le.2
      omega
  · show a < 2 ^ 20
    omega
theorem tOne_in {R : tR} {a : Nat} (h : (tOne (tSg R) a).1 = false) : a < R.2.2.1.1 := by
  refine Decidable.of_not_not (fun q => ?_)
  have e : tSg R a = 0 := if_neg q
  unfold tOne at h
  rw [e, if_neg (by decide)] at h
  cases h
/-- the orders that follow -/
def tFol (g : Nat → Int32) (nt : Nat) : Nat → Bool → Nat → Nat → (Nat → Nat → Int32) → Bool × Nat × Nat × (Nat → Nat → Int32)
  | 0, w, a, n, o => (w, a, n, o)
  | f + 1, w, a, n, o => if w = false ∧ a < nt then (if tNW g false a 59 = true then (true, a, n, o) else tFol g nt f (tOne g (a + 1)).1 (tOne g (a + 1)).2.1 (n + 1) (fun i => if i = n then (tOne g (a + 1)).2.2 else o i)) else (w, a, n, o)
/-- a text read: whether wrong, place, how many orders, the orders -/
def tReadX (R : tR) : Bool × Nat × Nat × (Nat → Nat → Int32) := tFol (tSg R) R.2.2.1.1 81 (tOne (tSg R) 0).1 (tOne (tSg R) 0).2.1 1 (fun _ => (tOne (tSg R) 0).2.2)
def tFault (R : tR) : Int32 := if (tReadX R).1 then nI (tReadX R).2.1 else -6
section ZTW26
variable {G : zG} {μ : zM} {m : Nat} {lam : Nat → Nat} {K : Nat → Nat → Int32} {P : zP} {R : tR}
def tPostF (G : zG) (μ : zM) (m : Nat) (lam : Nat → Nat) (P : zP) (R : tR) : Option Value → zM → Prop := fun v μ' => v = some (.int (tFault R)) ∧ (∃ K', zTS G μ' m lam K' P R ∧ ((tReadX R).1 = false → K' 0 4 = nI (tReadX R).2.2.1 ∧ (tReadX R).2.2.1 ≤ 40 ∧ ∀ i, i < (tReadX R).2.2.1 → ∀ c, c < 5 → (c < 4 ∨ (tReadX R).2.2.2 i 0 = 98) → K' 10 (5 * i + c) = (tReadX R).2.2.2 i c)) ∧ zKp tTw μ μ'
theorem C2_faultOf (hS : zTS G μ m lam K P R) : Meets G 5 MX2_faultOf [.ref m] μ (tPostF G μ m lam P R) 0 0 := by
  have hm := hS.1.m
  have h80 := hS.2.2.2.2.2.2.2.1
  refine meets_of (by decide +kernel) (Nat.le_of_ble_eq_true rfl) ?_
  first | refine aw_aload_n (i := 0) (q := 1) dX2_faultOf_0 rfl rfl rfl ?_ | refine aw_aloadN_n (i := 0) (q := 1) dX2_faultOf_0 rfl rfl rfl ?_ | refine aw_aloadQ_n (i := 0) (q := 1) dX2_faultOf_0 rfl rfl rfl ?_
  refine aw_iconst (v := 0) (q := 2) dX2_faultOf_1 rfl rfl ?_
  refine aw_putfield (q := 5) dX2_faultOf_2 gf_X2_185_2 hm (by first | assumption | simp) (by first | rfl | exact znar_rf _ _) (by first | rfl | exact zfit_rf _ _) (Nat.le_of_ble_eq_true rfl) rfl (fun μ1 hg_μ1 => ?_)
  have hm : μ1 _ = some _ := hg_μ1 ▸ updM_eq _ _ _
  simp only [List.set] at hm hg_μ1
  obtain ⟨hS1, hk1⟩ := hS.sc 5 0 (by decide) hg_μ1
  first | refine aw_aload_n (i := 0) (q := 6) dX2_faultOf_5 rfl rfl rfl ?_ | refine aw_aloadN_n (i := 0) (q := 6) dX2_faultOf_5 rfl rfl rfl ?_ | refine aw_aloadQ_n (i := 0) (q := 6) dX2_faultOf_5 rfl rfl rfl ?_
  refine aw_iconst (v := 0) (q := 7) dX2_faultOf_6 rfl rfl ?_
  refine aw_putfield (q := 10) dX2_faultOf_7 gf_X2_197_2 hm (by first | assumption | simp) (by first | rfl | exact znar_rf _ _) (by first | rfl | exact zfit_rf _ _) (Nat.le_of_ble_eq_true rfl) rfl (fun μ2 hg_μ2 => ?_)
  have hm : μ2 _ = some _ := hg_μ2 ▸ updM_eq _ _ _
  simp only [List.set] at hm hg_μ2
  obtain ⟨hS2, hk2⟩ := hS1.sc 4 0 (by decide) hg_μ2
  first | refine aw_aload_n (i := 0) (q := 11) dX2_faultOf_10 rfl rfl rfl ?_ | refine aw_aloadN_n (i := 0) (q := 11) dX2_faultOf_10 rfl rfl rfl ?_ | refine aw_aloadQ_n (i := 0) (q := 11) dX2_faultOf_10 rfl rfl rfl ?_
  refine aw_iconst (v := 0) (q := 12) dX2_faultOf_11 rfl rfl ?_
  refine aw_putfield (q := 15) dX2_faultOf_12 gf_X2_188_2 hm (by first | assumption | simp) (by first | rfl | exact znar_rf _ _) (by first | rfl | exact zfit_rf _ _) (Nat.le_of_ble_eq_true rfl) rfl (fun μ3 hg_μ3 => ?_)
  have hm : μ3 _ = some _ := hg_μ3 ▸ updM_eq _ _ _
  simp only [List.set] at hm hg_μ3
  obtain ⟨hS3, hk3⟩ := hS2.sc 6 0 (by decide) hg_μ3
  first | refine aw_aload_n (i := 0) (q := 16) dX2_faultOf_15 rfl rfl rfl ?_ | refine aw_aloadN_n (i := 0) (q := 16) dX2_faultOf_15 rfl rfl rfl ?_ | refine aw_aloadQ_n (i := 0) (q := 16) dX2_faultOf_15 rfl rfl rfl ?_
  refine aw_callV (q := 19) dX2_faultOf_16 (C2_readOne (n := 0) (a := 0) hS3 rfl rfl rfl (by omega) (by omega)) cv_X2_206_2 (by assumption) rfl rfl (by decide) (by decide) (by first | exact Nat.le_of_ble_eq_true rfl | simp [zcat_rf, Value.category]) rfl (fun v16 μ4 hp => ?_)
  obtain ⟨rfl, ⟨K4, hS4, ha4, hw4, hn4, -, -⟩, hk4⟩ := hp
  have stop : ∀ w a n o, ¬ (w = false ∧ a < R.2.2.1.1) → tReadX R = (w, a, n, o) → (w = false → n ≤ 40) → ∀ (μ2 : zM) (K2 : Nat → Nat → Int32), zTS G μ2 m lam K2 P R → K2 0 5 = nI a → K2 0 6 = bI w → (w = false → K2 0 4 = nI n ∧ ∀ i, i < n → ∀ c, c < 5 → (c < 4 ∨ o i 0 = 98) → K2 10 (5 * i + c) = o i c) → a < 2 ^ 20 → zKp tTw μ μ2 → AW G 5 MX2_faultOf (tPostF G μ m lam P R) 0 0 19 [(0, .ref m)] [] μ2 := by
    intro w a n o hs e0 hn40 μ2 K2 hS ha hw hK hab hk
    have hm := hS.1.m
    have ef : tFault R = if w then nI a else -6 := by rw [tFault, e0]
    have hfin : ∃ K', zTS G μ2 m lam K' P R ∧ ((tReadX R).1 = false → K' 0 4 = nI (tReadX R).2.2.1 ∧ (tReadX R).2.2.1 ≤ 40 ∧ ∀ i, i < (tReadX R).2.2.1 → ∀ c, c < 5 → (c < 4 ∨ (tReadX R).2.2.2 i 0 = 98) → K' 10 (5 * i + c) = (tReadX R).2.2.2 i c) := by
      rw [e0]
      exact ⟨K2, hS, fun q => ⟨(hK q).1, hn40 q, (hK q).2⟩⟩
    cases w with
    | true =>
      first | refine aw_aload_n (i := 0) (q := 20) dX2_faultOf_19 rfl rfl rfl ?_ | refine aw_aloadN_n (i := 0) (q := 20) dX2_faultOf_19 rfl rfl rfl ?_ | refine aw_aloadQ_n (i := 0) (q := 20) dX2_faultOf_19 rfl rfl rfl ?_
      refine aw_getfield (q := 23) dX2_faultOf_20 gf_X2_188_2 (by assumption) rfl rfl ?_
      rw [hw]
      refine aw_if_ne (tgt := 57) (q := 26) dX2_faultOf_23 (by decide) rfl (fun _ => ?_) (fun hc => absurd hc ((by decide)))
      first | refine aw_aload_n (i := 0) (q := 58) dX2_faultOf_57 rfl rfl rfl ?_ | refine aw_aloadN_n (i := 0) (q := 58) dX2_faultOf_57 rfl rfl rfl ?_ | refine aw_aloadQ_n (i := 0) (q := 58) dX2_faultOf_57 rfl rfl rfl ?_
      refine aw_getfield (q := 61) dX2_faultOf_58 gf_X2_188_2 (by assumption) rfl rfl ?_
      rw [hw]
      refine aw_if_eq (tgt := 71) (q := 64) dX2_faultOf_61 (by decide) rfl (fun hc => absurd hc ((by decide))) (fun _ => ?_)
      first | refine aw_aload_n (i := 0) (q := 65) dX2_faultOf_64 rfl rfl rfl ?_ | refine aw_aloadN_n (i := 0) (q := 65) dX2_faultOf_64 rfl rfl rfl ?_ | refine aw_aloadQ_n (i := 0) (q := 65) dX2_faultOf_64 rfl rfl rfl ?_
      refine aw_getfield (q := 68) dX2_faultOf_65 gf_X2_185_2 (by assumption) rfl rfl ?_
      refine aw_goto (tgt := 73) dX2_faultOf_68 (by decide) ?_
      rw [ha]
      exact aw_ireturn dX2_faultOf_73 rfl (by first | rfl | exact zB_nar _) (⟨by (rw [ef]; rfl), hfin, hk⟩)
    | false =>
      have hlt : R.2.2.1.1 ≤ a := by (have : ¬ a < R.2.2.1.1 := fun q => hs ⟨rfl, q⟩); omega
      first | refine aw_aload_n (i := 0) (q := 20) dX2_faultOf_19 rfl rfl rfl ?_ | refine aw_aloadN_n (i := 0) (q := 20) dX2_faultOf_19 rfl rfl rfl ?_ | refine aw_aloadQ_n (i := 0) (q := 20) dX2_faultOf_19 rfl rfl rfl ?_
      refine aw_getfield (q := 23) dX2_faultOf_20 gf_X2_188_2 (by assumption) rfl rfl ?_
      rw [hw]
      refine aw_if_ne (tgt := 57) (q := 26) dX2_faultOf_23 (by decide) rfl (fun hc => absurd (rfl) hc) (fun _ => ?_)
      first | refine aw_aload_n (i := 0) (q := 27) dX2_faultOf_26 rfl rfl rfl ?_ | refine aw_aloadN_n (i := 0) (q := 27) dX2_faultOf_26 rfl rfl rfl ?_ | refine aw_aloadQ_n (i := 0) (q := 27) dX2_faultOf_26 rfl rfl rfl ?_
      refine aw_getfield (q := 30) dX2_faultOf_27 gf_X2_185_2 (by assumption) rfl rfl ?_
      first | refine aw_aload_n (i := 0) (q := 31) dX2_faultOf_30 rfl rfl rfl ?_ | refine aw_aloadN_n (i := 0) (q := 31) dX2_faultOf_30 rfl rfl rfl ?_ | refine aw_aloadQ_n (i := 0) (q := 31) dX2_faultOf_30 rfl rfl rfl ?_
      refine aw_getfield (q := 34) dX2_faultOf_31 gf_X2_167_2 (by assumption) rfl rfl ?_
      rw [ha, hS.2.2.2.2.2.2.1]
      refine aw_icmp_ge (tgt := 57) (q := 37) dX2_faultOf_34 (by decide) rfl (fun _ => ?_) (fun hc => absurd (nI_le (by omega) (by omega)) hc)
      first | refine aw_aload_n (i := 0) (q := 58) dX2_faultOf_57 rfl rfl rfl ?_ | refine aw_aloadN_n (i := 0) (q := 58) dX2_faultOf_57 rfl rfl rfl ?_ | refine aw_aloadQ_n (i := 0) (q := 58) dX2_faultOf_57 rfl rfl rfl ?_
      refine aw_getfield (q := 61) dX2_faultOf_58 gf_X2_188_2 (by assumption) rfl rfl ?_
      rw [hw]
      refine aw_if_eq (tgt := 71) (q := 64) dX2_faultOf_61 (by decide) rfl (fun _ => ?_) (fun hc => absurd (rfl) hc)
      refine aw_bipush (v := (-6)) (q := 73) dX2_faultOf_71 rfl rfl ?_
      exact aw_ireturn dX2_faultOf_73 rfl (by first | rfl | exact zB_nar _) (⟨by (rw [ef]; rfl), hfin, hk⟩)
  have loop : ∀ f w a n o, (w = true ∨ R.2.2.1.1 < a + f) → 1 ≤ n → (w = false → 2 * n ≤ a + 1) → tFol (tSg R) R.2.2.1.1 f w a n o = tReadX R → (w = false → n ≤ 40) → ∀ (μ2 : zM) (K2 : Nat → Nat → Int32), zTS G μ2 m lam K2 P R → K2 0 5 = nI a → K2 0 6 = bI w → (w = false → K2 0 4 = nI n ∧ ∀ i, i < n → ∀ c, c < 5 → (c < 4 ∨ o i 0 = 98) → K2 10 (5 * i + c) = o i c) → a < 2 ^ 20 → zKp tTw μ μ2 → AW G 5 MX2_faultOf (tPostF G μ m lam P R) 0 0 19 [(0, .ref m)] [] μ2 := by
    intro f
    induction f with
    | zero =>
      intro w a n o hf hn1 hn2 he hn40 μ2 K2 hS ha hw hK hab hk
      exact stop w a n o (fun q => by (rcases hf with z | z; (rw [q.1] at z; cases z); omega)) he.symm hn40 μ2 K2 hS ha hw hK hab hk
    | succ f ih =>
      intro w a n o hf hn1 hn2 he hn40 μ2 K2 hS ha hw hK hab hk
      have hm := hS.1.m
      by_cases hgo : w = false ∧ a < R.2.2.1.1
      · obtain ⟨rfl, hlt⟩ := hgo
        have he2 : tReadX R = (if tNW (tSg R) false a 59 = true then (true, a, n, o) else tFol (tSg R) R.2.2.1.1 f (tOne (tSg R) (a + 1)).1 (tOne (tSg R) (a + 1)).2.1 (n + 1) (fun i => if i = n then (tOne (tSg R) (a + 1)).2.2 else o i)) := by
          rw [← he]
          exact if_pos ⟨rfl, hlt⟩
        have n2 := hn2 rfl
        first | refine aw_aload_n (i := 0) (q := 20) dX2_faultOf_19 rfl rfl rfl ?_ | refine aw_aloadN_n (i := 0) (q := 20) dX2_faultOf_19 rfl rfl rfl ?_ | refine aw_aloadQ_n (i := 0) (q := 20) dX2_faultOf_19 rfl rfl rfl ?_
        refine aw_getfield (q := 23) dX2_faultOf_20 gf_X2_188_2 (by assumption) rfl rfl ?_
        rw [hw]
        refine aw_if_ne (tgt := 57) (q := 26) dX2_faultOf_23 (by decide) rfl (fun hc => absurd (rfl) hc) (fun _ => ?_)
        first | refine aw_aload_n (i := 0) (q := 27) dX2_faultOf_26 rfl rfl rfl ?_ | refine aw_aloadN_n (i := 0) (q := 27) dX2_faultOf_26 rfl rfl rfl ?_ | refine aw_aloadQ_n (i := 0) (q := 27) dX2_faultOf_26 rfl rfl rfl ?_
        refine aw_getfield (q := 30) dX2_faultOf_27 gf_X2_185_2 (by assumption) rfl rfl ?_
        first | refine aw_aload_n (i := 0) (q := 31) dX2_faultOf_30 rfl rfl rfl ?_ | refine aw_aloadN_n (i := 0) (q := 31) dX2_faultOf_30 rfl rfl rfl ?_ | refine aw_aloadQ_n (i := 0) (q := 31) dX2_faultOf_30 rfl rfl rfl ?_
        refine aw_getfield (q := 34) dX2_faultOf_31 gf_X2_167_2 (by assumption) rfl rfl ?_
        rw [ha, hS.2.2.2.2.2.2.1]
        refine aw_icmp_ge (tgt := 57) (q := 37) dX2_faultOf_34 (by decide) rfl (fun hc => absurd hc (nI_ge hlt (by omega))) (fun _ => ?_)
        first | refine aw_aload_n (i := 0) (q := 38) dX2_faultOf_37 rfl rfl rfl ?_ | refine aw_aloadN_n (i := 0) (q := 38) dX2_faultOf_37 rfl rfl rfl ?_ | refine aw_aloadQ_n (i := 0) (q := 38) dX2_faultOf_37 rfl rfl rfl ?_
        refine aw_bipush (v := 59) (q := 40) dX2_faultOf_38 rfl rfl ?_
        refine aw_callV (q := 43) dX2_faultOf_40 (C2_need hS ha (by omega) hw) cv_X2_203_2 (by assumption) rfl rfl (by decide) (by decide) (by first | exact Nat.le_of_ble_eq_true rfl | simp [zcat_rf, Value.category]) rfl (fun v40 μ3 hp => ?_)
        obtain ⟨rfl, ⟨K3, hS3, ha3, hw3, h43, hK3⟩, hk3⟩ := hp
        have hm := hS3.1.m
        cases hx : tNW (tSg R) false a 59 with
        | true =>
          rw [hx] at he2 hw3 ha3
          rw [if_pos rfl] at he2
          first | refine aw_aload_n (i := 0) (q := 44) dX2_faultOf_43 rfl rfl rfl ?_ | refine aw_aloadN_n (i := 0) (q := 44) dX2_faultOf_43 rfl rfl rfl ?_ | refine aw_aloadQ_n (i := 0) (q := 44) dX2_faultOf_43 rfl rfl rfl ?_
          refine aw_getfield (q := 47) dX2_faultOf_44 gf_X2_188_2 (by assumption) rfl rfl ?_
          rw [hw3]
          refine aw_if_ne (tgt := 19) (q := 50) dX2_faultOf_47 (by decide) rfl (fun _ => ?_) (fun hc => absurd hc ((by decide)))
          exact aw_locals (by exact ⟨rfl, trivial⟩) (ih true a n o (Or.inl rfl) hn1 (fun q => by (cases q)) (by rw [he2]; cases f <;> rfl) (fun q => by (cases q)) μ3 K3 hS3 ha3 hw3 (fun q => by (cases q)) hab (hk.tr hk3))
        | false =>
          rw [hx] at he2 hw3 ha3
          rw [if_neg (by decide)] at he2
          have h4n : K3 0 4 = nI n := h43.trans (hK rfl).1
          have h103 : K3 10 = K2 10 := hK3 10 (by decide)
          first | refine aw_aload_n (i := 0) (q := 44) dX2_faultOf_43 rfl rfl rfl ?_ | refine aw_aloadN_n (i := 0) (q := 44) dX2_faultOf_43 rfl rfl rfl ?_ | refine aw_aloadQ_n (i := 0) (q := 44) dX2_faultOf_43 rfl rfl rfl ?_
          refine aw_getfield (q := 47) dX2_faultOf_44 gf_X2_188_2 (by assumption) rfl rfl ?_
          rw [hw3]
          refine aw_if_ne (tgt := 19) (q := 50) dX2_faultOf_47 (by decide) rfl (fun hc => absurd (rfl) hc) (fun _ => ?_)
          first | refine aw_aload_n (i := 0) (q := 51) dX2_faultOf_50 rfl rfl rfl ?_ | refine aw_aloadN_n (i := 0) (q := 51) dX2_faultOf_50 rfl rfl rfl ?_ | refine aw_aloadQ_n (i := 0) (q := 51) dX2_faultOf_50 rfl rfl rfl ?_
          refine aw_callV (q := 54) dX2_faultOf_51 (C2_readOne (n := n) (a := a + 1) hS3 ha3 hw3 h4n (by omega) (by omega)) cv_X2_206_2 (by assumption) rfl rfl (by decide) (by decide) (by first | exact Nat.le_of_ble_eq_true rfl | simp [zcat_rf, Value.category]) rfl (fun v51 μ4 hp => ?_)
          obtain ⟨rfl, ⟨K4, hS4, ha4, hw4, hn4, h104, -⟩, hk4⟩ := hp
          refine aw_goto (tgt := 19) dX2_faultOf_54 (by decide) ?_
          have nxt : (tOne (tSg R) (a + 1)).1 = false → a + 2 ≤ (tOne (tSg R) (a + 1)).2.1 := fun q => tOne_ge q
          have hle : (tOne (tSg R) (a + 1)).2.1 < 2 ^ 20 := tOne_lt (by omega)
          have nxt2 : (tOne (tSg R) (a + 1)).1 = false → a + 1 < R.2.2.1.1 := tOne_in
          generalize tOne (tSg R) (a + 1) = r at he2 ha4 hw4 hn4 nxt nxt2 hle ⊢
          have hf2 : r.1 = true ∨ R.2.2.1.1 < r.2.1 + f := by
            cases hr : r.1 with
            | true => exact Or.inl rfl
            | false =>
              have := nxt hr
              right
              rcases hf with q | q
              · cases q
              · omega
          have hK4 : r.1 = false → K4 0 4 = nI (n + 1) ∧ ∀ i, i < n + 1 → ∀ c, c < 5 → (c < 4 ∨ (if i = n then r.2.2 else o i) 0 = 98) → K4 10 (5 * i + c) = (if i = n then r.2.2 else o i) c := by
            intro q
            refine ⟨(hn4 q).1, fun i hi c c1 c2 => ?_⟩
            by_cases hin : i = n
            · subst hin
              rw [if_pos rfl] at c2 ⊢
              exact (hn4 q).2 c c1 c2
            · rw [if_neg hin] at c2 ⊢
              rw [h104 _ (by omega), h103]
              exact (hK rfl).2 i (by omega) c c1 c2
          exact aw_locals (by exact ⟨rfl, trivial⟩) (ih r.1 r.2.1 (n + 1) _ hf2 (by omega) (fun q => by (have := nxt q; omega)) he2.symm (fun q => by (have := nxt2 q; omega)) μ4 K4 hS4 ha4 hw4 hK4 hle ((hk.tr hk3).tr hk4))
      · have e0 : tReadX R = (w, a, n, o) := by rw [← he]; exact if_neg hgo
        exact stop w a n o hgo e0 hn40 μ2 K2 hS ha hw hK hab hk
  have hlt0 : (tOne (tSg R) 0).2.1 < 2 ^ 20 := tOne_lt (by decide)
  have hge0 : (tOne (tSg R) 0).1 = false → 1 ≤ (tOne (tSg R) 0).2.1 := fun q => tOne_ge q
  have hdef : tReadX R = tFol (tSg R) R.2.2.1.1 81 (tOne (tSg R) 0).1 (tOne (tSg R) 0).2.1 1 (fun _ => (tOne (tSg R) 0).2.2) := rfl
  generalize tOne (tSg R) 0 = r at ha4 hw4 hn4 hlt0 hge0 hdef ⊢
  exact aw_locals (by exact ⟨rfl, trivial⟩) (loop 81 r.1 r.2.1 1 (fun _ => r.2.2) (Or.inr (by omega)) (by omega) (fun q => by (have := hge0 q; omega)) hdef.symm (fun _ => by omega) μ4 K4 hS4 ha4 hw4 (fun q => ⟨(hn4 q).1, fun i hi c c1 c2 => by (have hi0 : i = 0 := by omega); subst hi0; exact (hn4 q).2 c c1 c2⟩) hlt0 (((hk1.tr hk2).tr hk3).tr hk4))
theorem C2_fault (hS : zTS G μ m lam K P R) : Meets G 6 MX2_fault [.ref m] μ (tAsk G μ m lam P R (tFault R)) 0 0 := by
  have hm := hS.1.m
  refine meets_of (by decide +kernel) (Nat.le_of_ble_eq_true rfl) ?_
  first | refine aw_aload_n (i := 0) (q := 1) dX2_fault_0 rfl rfl rfl ?_ | refine aw_aloadN_n (i := 0) (q := 1) dX2_fault_0 rfl rfl rfl ?_ | refine aw_aloadQ_n (i := 0) (q := 1) dX2_fault_0 rfl rfl rfl ?_
  refine aw_callV (q := 4) dX2_fault_1 (C2_faultOf hS) cv_X2_211_2 (by assumption) rfl rfl (by decide) (by decide) (by first | exact Nat.le_of_ble_eq_true rfl | simp [zcat_rf, Value.category]) rfl (fun v1 μ1 hp => ?_)
  obtain ⟨rfl, ⟨K1, hS1, -⟩, hk1⟩ := hp
  exact aw_ireturn dX2_fault_4 rfl (by first | rfl | exact zB_nar _) (⟨rfl, ⟨K1, hS1⟩, hk1⟩)
end ZTW26
