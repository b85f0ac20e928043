/-! THE PROGRAMME's sums -/
set_option maxRecDepth 100000
theorem zRfB {P : zP} {k : Nat} (hm : ∀ b, b < pcn P 10 → ∃ r, r ≤ 2 ^ 24 ∧ P 4 b 6 = nI r) (hn : pcn P 10 ≤ 80) (hk : k < pcn P 10) : -2147483648 ≤ (tSumR (fun i => P 4 i 6) k).toInt + (P 4 k 6).toInt ∧ (tSumR (fun i => P 4 i 6) k).toInt + (P 4 k 6).toInt ≤ 2147483647 := by
  have h1 : ∀ r, r < pcn P 10 → P 4 r 6 = nI (P 4 r 6).toNatClampNeg ∧ (P 4 r 6).toNatClampNeg ≤ 2 ^ 24 := by
    intro r hr
    obtain ⟨x, hx, e⟩ := hm r hr
    rw [e, nI_clamp (by omega)]
    exact ⟨rfl, hx⟩
  have h2 := tSumR_nI (f := fun i => P 4 i 6) (φ := fun i => (P 4 i 6).toNatClampNeg) k (fun r hr => (h1 r (by omega)).1)
  have h3 := tSums_le (φ := fun i => (P 4 i 6).toNatClampNeg) (B := 2 ^ 24) k (fun r hr => (h1 r (by omega)).2)
  have h4 := (h1 k hk).2
  rw [h2, (h1 k hk).1, nI_toInt (by omega), nI_toInt (by omega)]
  omega
section ZSU
variable {G : zG} {μ : zM} {p o : Nat} {P : zP} {A : Nat → Nat → Nat} {c : Nat → Int32}
theorem C_showsIn {x : Int32} (h : zPR G μ p o P A c) (hO : tOk P) : Meets G 5 MX1_showsIn [.ref p, .int x] μ (zAns (tSumR (fun i => if P 3 i 3 = x then 1 else 0) (pcn P 9)) μ) 1 4 := by
  have hL := h.lsh
  obtain ⟨_, chL⟩ := hL.cell
  have hcn : pcn P 9 ≤ 80 := Nat.le_trans hO.s.2 (by decide)
  have hp := h.1
  refine meets_of (by decide +kernel) (Nat.le_of_ble_eq_true rfl) ?_
  refine aw_iconst (v := 0) (q := 1) dX1_showsIn_0 rfl rfl ?_
  refine aw_istore_n (i := 2) (q := 2) dX1_showsIn_1 rfl (by decide) rfl ?_
  first | refine aw_aload_n (i := 0) (q := 3) dX1_showsIn_2 rfl rfl rfl ?_ | refine aw_aloadN_n (i := 0) (q := 3) dX1_showsIn_2 rfl rfl rfl ?_ | refine aw_aloadQ_n (i := 0) (q := 3) dX1_showsIn_2 rfl rfl rfl ?_
  refine aw_getfield (q := 6) dX1_showsIn_3 gf_X1_25_1 (by assumption) rfl rfl ?_
  refine aw_callF (q := 11) dX1_showsIn_6 (C_AL_iterator (u := zTI) hL zTI_nz) cf_X1_50_14 (by assumption) rfl rfl (by decide) (by decide) (by first | exact Nat.le_of_ble_eq_true rfl | simp [zcat_rf, Value.category]) rfl (fun v6 μ1 hp => ?_)
  obtain ⟨it, rfl, hitn, hg⟩ := hp
  first | refine aw_astore_n (i := 3) (q := 12) dX1_showsIn_11 rfl (by decide) rfl ?_ | refine aw_astoreN_n (i := 3) (q := 12) dX1_showsIn_11 rfl (by decide) rfl ?_ | refine aw_astoreQ_n (i := 3) (q := 12) dX1_showsIn_11 rfl (by decide) rfl ?_
  have hk1 : zKp zF μ μ1 := hg ▸ zKp.new hitn
  have hit1 : μ1 it = _ := hg ▸ updM_eq _ _ _
  have loop : ∀ (rem k : Nat) (lr : Int32) (μ2 : zM), k + rem = pcn P 9 → zKp zF μ μ2 → μ2 it = some (zTI, oItr k lr (c 3) (A 7 3)) → AW G 5 MX1_showsIn (zAns (tSumR (fun i => if P 3 i 3 = x then 1 else 0) (pcn P 9)) μ) 0 0 12 [(0, .ref p), (1, .int x), (2, .int (tSumR (fun i => if P 3 i 3 = x then 1 else 0) k)), (3, .ref it)] [] μ2 := by
    intro rem
    induction rem with
    | zero =>
      intro k lr μ2 hk hkp hi
      have ek : k = pcn P 9 := by omega
      have hL2 := (zF.pr h hkp).lsh
      obtain ⟨_, chL2⟩ := hL2.cell
      first | refine aw_aload_n (i := 3) (q := 13) dX1_showsIn_12 rfl rfl rfl ?_ | refine aw_aloadN_n (i := 3) (q := 13) dX1_showsIn_12 rfl rfl rfl ?_ | refine aw_aloadQ_n (i := 3) (q := 13) dX1_showsIn_12 rfl rfl rfl ?_
      refine aw_callF (q := 18) dX1_showsIn_13 (C_Itr_hasNext hL2 hi) cf_X1_56_11 (by assumption) rfl rfl (by decide) (by decide) (by first | exact Nat.le_of_ble_eq_true rfl | simp [zcat_rf, Value.category]) rfl (zpk ?_)
      refine aw_if_eq (tgt := 52) (q := 21) dX1_showsIn_18 (by decide) rfl (fun _ => ?_) (fun hZ => absurd ((zB_f (fun q => q (by rw [ek])))) hZ)
      refine aw_iload_n (i := 2) (q := 53) dX1_showsIn_52 rfl rfl rfl ?_
      exact aw_ireturn dX1_showsIn_53 rfl (by first | rfl | exact zB_nar _) (⟨by rw [ek], hkp⟩)
    | succ rem ih =>
      intro k lr μ2 hk hkp hi
      have hkn : k < pcn P 9 := by omega
      have h2 := zF.pr h hkp
      have hL2 := h2.lsh
      obtain ⟨_, chL2⟩ := hL2.cell
      first | refine aw_aload_n (i := 3) (q := 13) dX1_showsIn_12 rfl rfl rfl ?_ | refine aw_aloadN_n (i := 3) (q := 13) dX1_showsIn_12 rfl rfl rfl ?_ | refine aw_aloadQ_n (i := 3) (q := 13) dX1_showsIn_12 rfl rfl rfl ?_
      refine aw_callF (q := 18) dX1_showsIn_13 (C_Itr_hasNext hL2 hi) cf_X1_56_11 (by assumption) rfl rfl (by decide) (by decide) (by first | exact Nat.le_of_ble_eq_true rfl | simp [zcat_rf, Value.category]) rfl (zpk ?_)
      refine aw_if_eq (tgt := 52) (q := 21) dX1_showsIn_18 (by decide) rfl (fun hZ => absurd hZ (zHn hkn (by omega))) (fun _ => ?_)
      first | refine aw_aload_n (i := 3) (q := 22) dX1_showsIn_21 rfl rfl rfl ?_ | refine aw_aloadN_n (i := 3) (q := 22) dX1_showsIn_21 rfl rfl rfl ?_ | refine aw_aloadQ_n (i := 3) (q := 22) dX1_showsIn_21 rfl rfl rfl ?_
      refine aw_callF (q := 27) dX1_showsIn_22 (C_Itr_next hL2 hi hkn zTI_nz zTI_ls zTI_la) cf_X1_62_11 (by assumption) rfl rfl (by decide) (by decide) (by first | exact Nat.le_of_ble_eq_true rfl | simp [zcat_rf, Value.category]) rfl (fun v22 μ3 hp => ?_)
      obtain ⟨rfl, hg3⟩ := hp
      have hkp3 : zKp zF μ μ3 := hg3 ▸ hkp.it hitn
      have hi3 : μ3 it = _ := hg3 ▸ updM_eq _ _ _
      have h3 := zF.pr h hkp3
      obtain ⟨t, r, f, hob, htm, -, -⟩ := h3.sh hkn
      refine aw_cast (q := 30) dX1_showsIn_27 q535 hob ca_5_X5 rfl ?_
      first | refine aw_astore (q := 32) dX1_showsIn_30 (by decide) rfl ?_ | refine aw_astoreN (q := 32) dX1_showsIn_30 (by decide) rfl ?_ | refine aw_astoreQ (q := 32) dX1_showsIn_30 (by decide) rfl ?_
      try simp (config := {decide := true}) only [zput, zdel_q, zdel_f, zdel_t, zdel_nil, zdel_r, zdel_i, zdel_n]
      refine aw_iload_n (i := 2) (q := 33) dX1_showsIn_32 rfl rfl rfl ?_
      first | refine aw_aload (q := 35) dX1_showsIn_33 rfl rfl ?_ | refine aw_aloadN (q := 35) dX1_showsIn_33 rfl rfl ?_ | refine aw_aloadQ (q := 35) dX1_showsIn_33 rfl rfl ?_
      refine aw_getfield (q := 38) dX1_showsIn_35 gf_X1_263_5 (by assumption) rfl rfl ?_
      refine aw_iload_n (i := 1) (q := 39) dX1_showsIn_38 rfl rfl rfl ?_
      refine aw_icmp_ne (tgt := 46) (q := 42) dX1_showsIn_39 (by decide) rfl (fun hc => ?_) (fun hc => ?_)
      · refine aw_iconst (v := 0) (q := 47) dX1_showsIn_46 rfl rfl ?_
        refine aw_iadd (q := 48) dX1_showsIn_47 rfl ?_
        refine aw_istore_n (i := 2) (q := 49) dX1_showsIn_48 rfl (by decide) rfl ?_
        refine aw_goto (tgt := 12) dX1_showsIn_49 (by decide) ?_
        exact AW.bud (aw_locals (by exact ⟨rfl, rfl, by rw [show tSumR _ (k + 1) = tSumR _ k + _ from rfl, if_neg hc]; rfl, rfl, trivial⟩) (ih (k + 1) _ μ3 (by omega) hkp3 hi3)) (by omega) (by omega)
      · refine aw_iconst (v := 1) (q := 43) dX1_showsIn_42 rfl rfl ?_
        refine aw_goto (tgt := 47) dX1_showsIn_43 (by decide) ?_
        refine aw_iadd (q := 48) dX1_showsIn_47 rfl ?_
        refine aw_istore_n (i := 2) (q := 49) dX1_showsIn_48 rfl (by decide) rfl ?_
        refine aw_goto (tgt := 12) dX1_showsIn_49 (by decide) ?_
        exact AW.bud (aw_locals (by exact ⟨rfl, rfl, by rw [show tSumR _ (k + 1) = tSumR _ k + _ from rfl, if_pos hc]; rfl, rfl, trivial⟩) (ih (k + 1) _ μ3 (by omega) hkp3 hi3)) (by omega) (by omega)
  exact AW.bud (aw_locals (by exact ⟨rfl, rfl, rfl, rfl, trivial⟩) (loop (pcn P 9) 0 (-1) μ1 (by omega) hk1 hit1)) (by omega) (by omega)
theorem C_wornBy {x : Int32} (h : zPR G μ p o P A c) (hO : tOk P) : Meets G 5 MX1_wornBy [.ref p, .int x] μ (zAns (tSumR (fun i => if P 3 i 4 = x then 1 else 0) (pcn P 9)) μ) 1 4 := by
  have hL := h.lsh
  obtain ⟨_, chL⟩ := hL.cell
  have hcn : pcn P 9 ≤ 80 := Nat.le_trans hO.s.2 (by decide)
  have hp := h.1
  refine meets_of (by decide +kernel) (Nat.le_of_ble_eq_true rfl) ?_
  refine aw_iconst (v := 0) (q := 1) dX1_wornBy_0 rfl rfl ?_
  refine aw_istore_n (i := 2) (q := 2) dX1_wornBy_1 rfl (by decide) rfl ?_
  first | refine aw_aload_n (i := 0) (q := 3) dX1_wornBy_2 rfl rfl rfl ?_ | refine aw_aloadN_n (i := 0) (q := 3) dX1_wornBy_2 rfl rfl rfl ?_ | refine aw_aloadQ_n (i := 0) (q := 3) dX1_wornBy_2 rfl rfl rfl ?_
  refine aw_getfield (q := 6) dX1_wornBy_3 gf_X1_25_1 (by assumption) rfl rfl ?_
  refine aw_callF (q := 11) dX1_wornBy_6 (C_AL_iterator (u := zTI) hL zTI_nz) cf_X1_50_14 (by assumption) rfl rfl (by decide) (by decide) (by first | exact Nat.le_of_ble_eq_true rfl | simp [zcat_rf, Value.category]) rfl (fun v6 μ1 hp => ?_)
  obtain ⟨it, rfl, hitn, hg⟩ := hp
  first | refine aw_astore_n (i := 3) (q := 12) dX1_wornBy_11 rfl (by decide) rfl ?_ | refine aw_astoreN_n (i := 3) (q := 12) dX1_wornBy_11 rfl (by decide) rfl ?_ | refine aw_astoreQ_n (i := 3) (q := 12) dX1_wornBy_11 rfl (by decide) rfl ?_
  have hk1 : zKp zF μ μ1 := hg ▸ zKp.new hitn
  have hit1 : μ1 it = _ := hg ▸ updM_eq _ _ _
  have loop : ∀ (rem k : Nat) (lr : Int32) (μ2 : zM), k + rem = pcn P 9 → zKp zF μ μ2 → μ2 it = some (zTI, oItr k lr (c 3) (A 7 3)) → AW G 5 MX1_wornBy (zAns (tSumR (fun i => if P 3 i 4 = x then 1 else 0) (pcn P 9)) μ) 0 0 12 [(0, .ref p), (1, .int x), (2, .int (tSumR (fun i => if P 3 i 4 = x then 1 else 0) k)), (3, .ref it)] [] μ2 := by
    intro rem
    induction rem with
    | zero =>
      intro k lr μ2 hk hkp hi
      have ek : k = pcn P 9 := by omega
      have hL2 := (zF.pr h hkp).lsh
      obtain ⟨_, chL2⟩ := hL2.cell
      first | refine aw_aload_n (i := 3) (q := 13) dX1_wornBy_12 rfl rfl rfl ?_ | refine aw_aloadN_n (i := 3) (q := 13) dX1_wornBy_12 rfl rfl rfl ?_ | refine aw_aloadQ_n (i := 3) (q := 13) dX1_wornBy_12 rfl rfl rfl ?_
      refine aw_callF (q := 18) dX1_wornBy_13 (C_Itr_hasNext hL2 hi) cf_X1_56_11 (by assumption) rfl rfl (by decide) (by decide) (by first | exact Nat.le_of_ble_eq_true rfl | simp [zcat_rf, Value.category]) rfl (zpk ?_)
      refine aw_if_eq (tgt := 52) (q := 21) dX1_wornBy_18 (by decide) rfl (fun _ => ?_) (fun hZ => absurd ((zB_f (fun q => q (by rw [ek])))) hZ)
      refine aw_iload_n (i := 2) (q := 53) dX1_wornBy_52 rfl rfl rfl ?_
      exact aw_ireturn dX1_wornBy_53 rfl (by first | rfl | exact zB_nar _) (⟨by rw [ek], hkp⟩)
    | succ rem ih =>
      intro k lr μ2 hk hkp hi
      have hkn : k < pcn P 9 := by omega
      have h2 := zF.pr h hkp
      have hL2 := h2.lsh
      obtain ⟨_, chL2⟩ := hL2.cell
      first | refine aw_aload_n (i := 3) (q := 13) dX1_wornBy_12 rfl rfl rfl ?_ | refine aw_aloadN_n (i := 3) (q := 13) dX1_wornBy_12 rfl rfl rfl ?_ | refine aw_aloadQ_n (i := 3) (q := 13) dX1_wornBy_12 rfl rfl rfl ?_
      refine aw_callF (q := 18) dX1_wornBy_13 (C_Itr_hasNext hL2 hi) cf_X1_56_11 (by assumption) rfl rfl (by decide) (by decide) (by first | exact Nat.le_of_ble_eq_true rfl | simp [zcat_rf, Value.category]) rfl (zpk ?_)
      refine aw_if_eq (tgt := 52) (q := 21) dX1_wornBy_18 (by decide) rfl (fun hZ => absurd hZ (zHn hkn (by omega))) (fun _ => ?_)
      first | refine aw_aload_n (i := 3) (q := 22) dX1_wornBy_21 rfl rfl rfl ?_ | refine aw_aloadN_n (i := 3) (q := 22) dX1_wornBy_21 rfl rfl rfl ?_ | refine aw_aloadQ_n (i := 3) (q := 22) dX1_wornBy_21 rfl rfl rfl ?_
      refine aw_callF (q := 27) dX1_wornBy_22 (C_Itr_next hL2 hi hkn zTI_nz zTI_ls zTI_la) cf_X1_62_11 (by assumption) rfl rfl (by decide) (by decide) (by first | exact Nat.le_of_ble_eq_true rfl | simp [zcat_rf, Value.category]) rfl (fun v22 μ3 hp => ?_)
      obtain ⟨rfl, hg3⟩ := hp
      have hkp3 : zKp zF μ μ3 := hg3 ▸ hkp.it hitn
      have hi3 : μ3 it = _ := hg3 ▸ updM_eq _ _ _
      have h3 := zF.pr h hkp3
      obtain ⟨t, r, f, hob, htm, -, -⟩ := h3.sh hkn
      refine aw_cast (q := 30) dX1_wornBy_27 q535 hob ca_5_X5 rfl ?_
      first | refine aw_astore (q := 32) dX1_wornBy_30 (by decide) rfl ?_ | refine aw_astoreN (q := 32) dX1_wornBy_30 (by decide) rfl ?_ | refine aw_astoreQ (q := 32) dX1_wornBy_30 (by decide) rfl ?_
      try simp (config := {decide := true}) only [zput, zdel_q, zdel_f, zdel_t, zdel_nil, zdel_r, zdel_i, zdel_n]
      refine aw_iload_n (i := 2) (q := 33) dX1_wornBy_32 rfl rfl rfl ?_
      first | refine aw_aload (q := 35) dX1_wornBy_33 rfl rfl ?_ | refine aw_aloadN (q := 35) dX1_wornBy_33 rfl rfl ?_ | refine aw_aloadQ (q := 35) dX1_wornBy_33 rfl rfl ?_
      refine aw_getfield (q := 38) dX1_wornBy_35 gf_X1_278_5 (by assumption) rfl rfl ?_
      refine aw_iload_n (i := 1) (q := 39) dX1_wornBy_38 rfl rfl rfl ?_
      refine aw_icmp_ne (tgt := 46) (q := 42) dX1_wornBy_39 (by decide) rfl (fun hc => ?_) (fun hc => ?_)
      · refine aw_iconst (v := 0) (q := 47) dX1_wornBy_46 rfl rfl ?_
        refine aw_iadd (q := 48) dX1_wornBy_47 rfl ?_
        refine aw_istore_n (i := 2) (q := 49) dX1_wornBy_48 rfl (by decide) rfl ?_
        refine aw_goto (tgt := 12) dX1_wornBy_49 (by decide) ?_
        exact AW.bud (aw_locals (by exact ⟨rfl, rfl, by rw [show tSumR _ (k + 1) = tSumR _ k + _ from rfl, if_neg hc]; rfl, rfl, trivial⟩) (ih (k + 1) _ μ3 (by omega) hkp3 hi3)) (by omega) (by omega)
      · refine aw_iconst (v := 1) (q := 43) dX1_wornBy_42 rfl rfl ?_
        refine aw_goto (tgt := 47) dX1_wornBy_43 (by decide) ?_
        refine aw_iadd (q := 48) dX1_wornBy_47 rfl ?_
        refine aw_istore_n (i := 2) (q := 49) dX1_wornBy_48 rfl (by decide) rfl ?_
        refine aw_goto (tgt := 12) dX1_wornBy_49 (by decide) ?_
        exact AW.bud (aw_locals (by exact ⟨rfl, rfl, by rw [show tSumR _ (k + 1) = tSumR _ k + _ from rfl, if_pos hc]; rfl, rfl, trivial⟩) (ih (k + 1) _ μ3 (by omega) hkp3 hi3)) (by omega) (by omega)
  exact AW.bud (aw_locals (by exact ⟨rfl, rfl, rfl, rfl, trivial⟩) (loop (pcn P 9) 0 (-1) μ1 (by omega) hk1 hit1)) (by omega) (by omega)
theorem C_costOf {x : Int32} (h : zPR G μ p o P A c) (hO : tOk P) : Meets G 5 MX1_costOf [.ref p, .int x] μ (zAns (tSumR (fun i => if P 4 i 0 = x then P 4 i 5 else 0) (pcn P 10)) μ) 1 4 := by
  have hL := h.lbk
  obtain ⟨_, chL⟩ := hL.cell
  have hcn : pcn P 10 ≤ 80 := Nat.le_trans hO.b.2 (by decide)
  have hp := h.1
  refine meets_of (by decide +kernel) (Nat.le_of_ble_eq_true rfl) ?_
  refine aw_iconst (v := 0) (q := 1) dX1_costOf_0 rfl rfl ?_
  refine aw_istore_n (i := 2) (q := 2) dX1_costOf_1 rfl (by decide) rfl ?_
  first | refine aw_aload_n (i := 0) (q := 3) dX1_costOf_2 rfl rfl rfl ?_ | refine aw_aloadN_n (i := 0) (q := 3) dX1_costOf_2 rfl rfl rfl ?_ | refine aw_aloadQ_n (i := 0) (q := 3) dX1_costOf_2 rfl rfl rfl ?_
  refine aw_getfield (q := 6) dX1_costOf_3 gf_X1_28_1 (by assumption) rfl rfl ?_
  refine aw_callF (q := 11) dX1_costOf_6 (C_AL_iterator (u := zTI) hL zTI_nz) cf_X1_50_14 (by assumption) rfl rfl (by decide) (by decide) (by first | exact Nat.le_of_ble_eq_true rfl | simp [zcat_rf, Value.category]) rfl (fun v6 μ1 hp => ?_)
  obtain ⟨it, rfl, hitn, hg⟩ := hp
  first | refine aw_astore_n (i := 3) (q := 12) dX1_costOf_11 rfl (by decide) rfl ?_ | refine aw_astoreN_n (i := 3) (q := 12) dX1_costOf_11 rfl (by decide) rfl ?_ | refine aw_astoreQ_n (i := 3) (q := 12) dX1_costOf_11 rfl (by decide) rfl ?_
  have hk1 : zKp zF μ μ1 := hg ▸ zKp.new hitn
  have hit1 : μ1 it = _ := hg ▸ updM_eq _ _ _
  have loop : ∀ (rem k : Nat) (lr : Int32) (μ2 : zM), k + rem = pcn P 10 → zKp zF μ μ2 → μ2 it = some (zTI, oItr k lr (c 4) (A 7 4)) → AW G 5 MX1_costOf (zAns (tSumR (fun i => if P 4 i 0 = x then P 4 i 5 else 0) (pcn P 10)) μ) 0 0 12 [(0, .ref p), (1, .int x), (2, .int (tSumR (fun i => if P 4 i 0 = x then P 4 i 5 else 0) k)), (3, .ref it)] [] μ2 := by
    intro rem
    induction rem with
    | zero =>
      intro k lr μ2 hk hkp hi
      have ek : k = pcn P 10 := by omega
      have hL2 := (zF.pr h hkp).lbk
      obtain ⟨_, chL2⟩ := hL2.cell
      first | refine aw_aload_n (i := 3) (q := 13) dX1_costOf_12 rfl rfl rfl ?_ | refine aw_aloadN_n (i := 3) (q := 13) dX1_costOf_12 rfl rfl rfl ?_ | refine aw_aloadQ_n (i := 3) (q := 13) dX1_costOf_12 rfl rfl rfl ?_
      refine aw_callF (q := 18) dX1_costOf_13 (C_Itr_hasNext hL2 hi) cf_X1_56_11 (by assumption) rfl rfl (by decide) (by decide) (by first | exact Nat.le_of_ble_eq_true rfl | simp [zcat_rf, Value.category]) rfl (zpk ?_)
      refine aw_if_eq (tgt := 56) (q := 21) dX1_costOf_18 (by decide) rfl (fun _ => ?_) (fun hZ => absurd ((zB_f (fun q => q (by rw [ek])))) hZ)
      refine aw_iload_n (i := 2) (q := 57) dX1_costOf_56 rfl rfl rfl ?_
      exact aw_ireturn dX1_costOf_57 rfl (by first | rfl | exact zB_nar _) (⟨by rw [ek], hkp⟩)
    | succ rem ih =>
      intro k lr μ2 hk hkp hi
      have hkn : k < pcn P 10 := by omega
      have h2 := zF.pr h hkp
      have hL2 := h2.lbk
      obtain ⟨_, chL2⟩ := hL2.cell
      first | refine aw_aload_n (i := 3) (q := 13) dX1_costOf_12 rfl rfl rfl ?_ | refine aw_aloadN_n (i := 3) (q := 13) dX1_costOf_12 rfl rfl rfl ?_ | refine aw_aloadQ_n (i := 3) (q := 13) dX1_costOf_12 rfl rfl rfl ?_
      refine aw_callF (q := 18) dX1_costOf_13 (C_Itr_hasNext hL2 hi) cf_X1_56_11 (by assumption) rfl rfl (by decide) (by decide) (by first | exact Nat.le_of_ble_eq_true rfl | simp [zcat_rf, Value.category]) rfl (zpk ?_)
      refine aw_if_eq (tgt := 56) (q := 21) dX1_costOf_18 (by decide) rfl (fun hZ => absurd hZ (zHn hkn (by omega))) (fun _ => ?_)
      first | refine aw_aload_n (i := 3) (q := 22) dX1_costOf_21 rfl rfl rfl ?_ | refine aw_aloadN_n (i := 3) (q := 22) dX1_costOf_21 rfl rfl rfl ?_ | refine aw_aloadQ_n (i := 3) (q := 22) dX1_costOf_21 rfl rfl rfl ?_
      refine aw_callF (q := 27) dX1_costOf_22 (C_Itr_next hL2 hi hkn zTI_nz zTI_ls zTI_la) cf_X1_62_11 (by assumption) rfl rfl (by decide) (by decide) (by first | exact Nat.le_of_ble_eq_true rfl | simp [zcat_rf, Value.category]) rfl (fun v22 μ3 hp => ?_)
      obtain ⟨rfl, hg3⟩ := hp
      have hkp3 : zKp zF μ μ3 := hg3 ▸ hkp.it hitn
      have hi3 : μ3 it = _ := hg3 ▸ updM_eq _ _ _
      have h3 := zF.pr h hkp3
      obtain ⟨r, f, hob, -, -⟩ := h3.bk hkn
      refine aw_cast (q := 30) dX1_costOf_27 q583 hob ca_6_X6 rfl ?_
      first | refine aw_astore (q := 32) dX1_costOf_30 (by decide) rfl ?_ | refine aw_astoreN (q := 32) dX1_costOf_30 (by decide) rfl ?_ | refine aw_astoreQ (q := 32) dX1_costOf_30 (by decide) rfl ?_
      try simp (config := {decide := true}) only [zput, zdel_q, zdel_f, zdel_t, zdel_nil, zdel_r, zdel_i, zdel_n]
      refine aw_iload_n (i := 2) (q := 33) dX1_costOf_32 rfl rfl rfl ?_
      first | refine aw_aload (q := 35) dX1_costOf_33 rfl rfl ?_ | refine aw_aloadN (q := 35) dX1_costOf_33 rfl rfl ?_ | refine aw_aloadQ (q := 35) dX1_costOf_33 rfl rfl ?_
      refine aw_getfield (q := 38) dX1_costOf_35 gf_X1_155_6 (by assumption) rfl rfl ?_
      refine aw_iload_n (i := 1) (q := 39) dX1_costOf_38 rfl rfl rfl ?_
      refine aw_icmp_ne (tgt := 50) (q := 42) dX1_costOf_39 (by decide) rfl (fun hc => ?_) (fun hc => ?_)
      · refine aw_iconst (v := 0) (q := 51) dX1_costOf_50 rfl rfl ?_
        refine aw_iadd (q := 52) dX1_costOf_51 rfl ?_
        refine aw_istore_n (i := 2) (q := 53) dX1_costOf_52 rfl (by decide) rfl ?_
        refine aw_goto (tgt := 12) dX1_costOf_53 (by decide) ?_
        exact AW.bud (aw_locals (by exact ⟨rfl, rfl, by rw [show tSumR _ (k + 1) = tSumR _ k + _ from rfl, if_neg hc]; rfl, rfl, trivial⟩) (ih (k + 1) _ μ3 (by omega) hkp3 hi3)) (by omega) (by omega)
      · first | refine aw_aload (q := 44) dX1_costOf_42 rfl rfl ?_ | refine aw_aloadN (q := 44) dX1_costOf_42 rfl rfl ?_ | refine aw_aloadQ (q := 44) dX1_costOf_42 rfl rfl ?_
        refine aw_getfield (q := 47) dX1_costOf_44 gf_X1_169_6 (by assumption) rfl rfl ?_
        refine aw_goto (tgt := 51) dX1_costOf_47 (by decide) ?_
        refine aw_iadd (q := 52) dX1_costOf_51 rfl ?_
        refine aw_istore_n (i := 2) (q := 53) dX1_costOf_52 rfl (by decide) rfl ?_
        refine aw_goto (tgt := 12) dX1_costOf_53 (by decide) ?_
        exact AW.bud (aw_locals (by exact ⟨rfl, rfl, by rw [show tSumR _ (k + 1) = tSumR _ k + _ from rfl, if_pos hc]; rfl, rfl, trivial⟩) (ih (k + 1) _ μ3 (by omega) hkp3 hi3)) (by omega) (by omega)
  exact AW.bud (aw_locals (by exact ⟨rfl, rfl, rfl, rfl, trivial⟩) (loop (pcn P 10) 0 (-1) μ1 (by omega) hk1 hit1)) (by omega) (by omega)
theorem C_refundedOf {x : Int32} (h : zPR G μ p o P A c) (hO : tOk P) : Meets G 5 MX1_refundedOf [.ref p, .int x] μ (zAns (tSumR (fun i => if P 4 i 0 = x then P 4 i 6 else 0) (pcn P 10)) μ) 1 4 := by
  have hL := h.lbk
  obtain ⟨_, chL⟩ := hL.cell
  have hcn : pcn P 10 ≤ 80 := Nat.le_trans hO.b.2 (by decide)
  have hp := h.1
  refine meets_of (by decide +kernel) (Nat.le_of_ble_eq_true rfl) ?_
  refine aw_iconst (v := 0) (q := 1) dX1_refundedOf_0 rfl rfl ?_
  refine aw_istore_n (i := 2) (q := 2) dX1_refundedOf_1 rfl (by decide) rfl ?_
  first | refine aw_aload_n (i := 0) (q := 3) dX1_refundedOf_2 rfl rfl rfl ?_ | refine aw_aloadN_n (i := 0) (q := 3) dX1_refundedOf_2 rfl rfl rfl ?_ | refine aw_aloadQ_n (i := 0) (q := 3) dX1_refundedOf_2 rfl rfl rfl ?_
  refine aw_getfield (q := 6) dX1_refundedOf_3 gf_X1_28_1 (by assumption) rfl rfl ?_
  refine aw_callF (q := 11) dX1_refundedOf_6 (C_AL_iterator (u := zTI) hL zTI_nz) cf_X1_50_14 (by assumption) rfl rfl (by decide) (by decide) (by first | exact Nat.le_of_ble_eq_true rfl | simp [zcat_rf, Value.category]) rfl (fun v6 μ1 hp => ?_)
  obtain ⟨it, rfl, hitn, hg⟩ := hp
  first | refine aw_astore_n (i := 3) (q := 12) dX1_refundedOf_11 rfl (by decide) rfl ?_ | refine aw_astoreN_n (i := 3) (q := 12) dX1_refundedOf_11 rfl (by decide) rfl ?_ | refine aw_astoreQ_n (i := 3) (q := 12) dX1_refundedOf_11 rfl (by decide) rfl ?_
  have hk1 : zKp zF μ μ1 := hg ▸ zKp.new hitn
  have hit1 : μ1 it = _ := hg ▸ updM_eq _ _ _
  have loop : ∀ (rem k : Nat) (lr : Int32) (μ2 : zM), k + rem = pcn P 10 → zKp zF μ μ2 → μ2 it = some (zTI, oItr k lr (c 4) (A 7 4)) → AW G 5 MX1_refundedOf (zAns (tSumR (fun i => if P 4 i 0 = x then P 4 i 6 else 0) (pcn P 10)) μ) 0 0 12 [(0, .ref p), (1, .int x), (2, .int (tSumR (fun i => if P 4 i 0 = x then P 4 i 6 else 0) k)), (3, .ref it)] [] μ2 := by
    intro rem
    induction rem with
    | zero =>
      intro k lr μ2 hk hkp hi
      have ek : k = pcn P 10 := by omega
      have hL2 := (zF.pr h hkp).lbk
      obtain ⟨_, chL2⟩ := hL2.cell
      first | refine aw_aload_n (i := 3) (q := 13) dX1_refundedOf_12 rfl rfl rfl ?_ | refine aw_aloadN_n (i := 3) (q := 13) dX1_refundedOf_12 rfl rfl rfl ?_ | refine aw_aloadQ_n (i := 3) (q := 13) dX1_refundedOf_12 rfl rfl rfl ?_
      refine aw_callF (q := 18) dX1_refundedOf_13 (C_Itr_hasNext hL2 hi) cf_X1_56_11 (by assumption) rfl rfl (by decide) (by decide) (by first | exact Nat.le_of_ble_eq_true rfl | simp [zcat_rf, Value.category]) rfl (zpk ?_)
      refine aw_if_eq (tgt := 56) (q := 21) dX1_refundedOf_18 (by decide) rfl (fun _ => ?_) (fun hZ => absurd ((zB_f (fun q => q (by rw [ek])))) hZ)
      refine aw_iload_n (i := 2) (q := 57) dX1_refundedOf_56 rfl rfl rfl ?_
      exact aw_ireturn dX1_refundedOf_57 rfl (by first | rfl | exact zB_nar _) (⟨by rw [ek], hkp⟩)
    | succ rem ih =>
      intro k lr μ2 hk hkp hi
      have hkn : k < pcn P 10 := by omega
      have h2 := zF.pr h hkp
      have hL2 := h2.lbk
      obtain ⟨_, chL2⟩ := hL2.cell
      first | refine aw_aload_n (i := 3) (q := 13) dX1_refundedOf_12 rfl rfl rfl ?_ | refine aw_aloadN_n (i := 3) (q := 13) dX1_refundedOf_12 rfl rfl rfl ?_ | refine aw_aloadQ_n (i := 3) (q := 13) dX1_refundedOf_12 rfl rfl rfl ?_
      refine aw_callF (q := 18) dX1_refundedOf_13 (C_Itr_hasNext hL2 hi) cf_X1_56_11 (by assumption) rfl rfl (by decide) (by decide) (by first | exact Nat.le_of_ble_eq_true rfl | simp [zcat_rf, Value.category]) rfl (zpk ?_)
      refine aw_if_eq (tgt := 56) (q := 21) dX1_refundedOf_18 (by decide) rfl (fun hZ => absurd hZ (zHn hkn (by omega))) (fun _ => ?_)
      first | refine aw_aload_n (i := 3) (q := 22) dX1_refundedOf_21 rfl rfl rfl ?_ | refine aw_aloadN_n (i := 3) (q := 22) dX1_refundedOf_21 rfl rfl rfl ?_ | refine aw_aloadQ_n (i := 3) (q := 22) dX1_refundedOf_21 rfl rfl rfl ?_
      refine aw_callF (q := 27) dX1_refundedOf_22 (C_Itr_next hL2 hi hkn zTI_nz zTI_ls zTI_la) cf_X1_62_11 (by assumption) rfl rfl (by decide) (by decide) (by first | exact Nat.le_of_ble_eq_true rfl | simp [zcat_rf, Value.category]) rfl (fun v22 μ3 hp => ?_)
      obtain ⟨rfl, hg3⟩ := hp
      have hkp3 : zKp zF μ μ3 := hg3 ▸ hkp.it hitn
      have hi3 : μ3 it = _ := hg3 ▸ updM_eq _ _ _
      have h3 := zF.pr h hkp3
      obtain ⟨r, f, hob, -, -⟩ := h3.bk hkn
      refine aw_cast (q := 30) dX1_refundedOf_27 q583 hob ca_6_X6 rfl ?_
      first | refine aw_astore (q := 32) dX1_refundedOf_30 (by decide) rfl ?_ | refine aw_astoreN (q := 32) dX1_refundedOf_30 (by decide) rfl ?_ | refine aw_astoreQ (q := 32) dX1_refundedOf_30 (by decide) rfl ?_
      try simp (config := {decide := true}) only [zput, zdel_q, zdel_f, zdel_t, zdel_nil, zdel_r, zdel_i, zdel_n]
      refine aw_iload_n (i := 2) (q := 33) dX1_refundedOf_32 rfl rfl rfl ?_
      first | refine aw_aload (q := 35) dX1_refundedOf_33 rfl rfl ?_ | refine aw_aloadN (q := 35) dX1_refundedOf_33 rfl rfl ?_ | refine aw_aloadQ (q := 35) dX1_refundedOf_33 rfl rfl ?_
      refine aw_getfield (q := 38) dX1_refundedOf_35 gf_X1_155_6 (by assumption) rfl rfl ?_
      refine aw_iload_n (i := 1) (q := 39) dX1_refundedOf_38 rfl rfl rfl ?_
      refine aw_icmp_ne (tgt := 50) (q := 42) dX1_refundedOf_39 (by decide) rfl (fun hc => ?_) (fun hc => ?_)
      · refine aw_iconst (v := 0) (q := 51) dX1_refundedOf_50 rfl rfl ?_
        refine aw_iadd (q := 52) dX1_refundedOf_51 rfl ?_
        refine aw_istore_n (i := 2) (q := 53) dX1_refundedOf_52 rfl (by decide) rfl ?_
        refine aw_goto (tgt := 12) dX1_refundedOf_53 (by decide) ?_
        exact AW.bud (aw_locals (by exact ⟨rfl, rfl, by rw [show tSumR _ (k + 1) = tSumR _ k + _ from rfl, if_neg hc]; rfl, rfl, trivial⟩) (ih (k + 1) _ μ3 (by omega) hkp3 hi3)) (by omega) (by omega)
      · first | refine aw_aload (q := 44) dX1_refundedOf_42 rfl rfl ?_ | refine aw_aloadN (q := 44) dX1_refundedOf_42 rfl rfl ?_ | refine aw_aloadQ (q := 44) dX1_refundedOf_42 rfl rfl ?_
        refine aw_getfield (q := 47) dX1_refundedOf_44 gf_X1_290_6 (by assumption) rfl rfl ?_
        refine aw_goto (tgt := 51) dX1_refundedOf_47 (by decide) ?_
        refine aw_iadd (q := 52) dX1_refundedOf_51 rfl ?_
        refine aw_istore_n (i := 2) (q := 53) dX1_refundedOf_52 rfl (by decide) rfl ?_
        refine aw_goto (tgt := 12) dX1_refundedOf_53 (by decide) ?_
        exact AW.bud (aw_locals (by exact ⟨rfl, rfl, by rw [show tSumR _ (k + 1) = tSumR _ k + _ from rfl, if_pos hc]; rfl, rfl, trivial⟩) (ih (k + 1) _ μ3 (by omega) hkp3 hi3)) (by omega) (by omega)
  exact AW.bud (aw_locals (by exact ⟨rfl, rfl, rfl, rfl, trivial⟩) (loop (pcn P 10) 0 (-1) μ1 (by omega) hk1 hit1)) (by omega) (by omega)
theorem C_showsOf {x y : Int32} (h : zPR G μ p o P A c) (hO : tOk P) : Meets G 5 MX1_showsOf [.ref p, .int x, .int y] μ (zAns (tSumR (fun i => if P 3 i 0 = x ∧ P 3 i 3 = y then 1 else 0) (pcn P 9)) μ) 1 4 := by
  have hL := h.lsh
  obtain ⟨_, chL⟩ := hL.cell
  have hcn : pcn P 9 ≤ 80 := Nat.le_trans hO.s.2 (by decide)
  have hp := h.1
  refine meets_of (by decide +kernel) (Nat.le_of_ble_eq_true rfl) ?_
  refine aw_iconst (v := 0) (q := 1) dX1_showsOf_0 rfl rfl ?_
  refine aw_istore_n (i := 3) (q := 2) dX1_showsOf_1 rfl (by decide) rfl ?_
  first | refine aw_aload_n (i := 0) (q := 3) dX1_showsOf_2 rfl rfl rfl ?_ | refine aw_aloadN_n (i := 0) (q := 3) dX1_showsOf_2 rfl rfl rfl ?_ | refine aw_aloadQ_n (i := 0) (q := 3) dX1_showsOf_2 rfl rfl rfl ?_
  refine aw_getfield (q := 6) dX1_showsOf_3 gf_X1_25_1 (by assumption) rfl rfl ?_
  refine aw_callF (q := 11) dX1_showsOf_6 (C_AL_iterator (u := zTI) hL zTI_nz) cf_X1_50_14 (by assumption) rfl rfl (by decide) (by decide) (by first | exact Nat.le_of_ble_eq_true rfl | simp [zcat_rf, Value.category]) rfl (fun v6 μ1 hp => ?_)
  obtain ⟨it, rfl, hitn, hg⟩ := hp
  first | refine aw_astore (q := 13) dX1_showsOf_11 (by decide) rfl ?_ | refine aw_astoreN (q := 13) dX1_showsOf_11 (by decide) rfl ?_ | refine aw_astoreQ (q := 13) dX1_showsOf_11 (by decide) rfl ?_
  have hk1 : zKp zF μ μ1 := hg ▸ zKp.new hitn
  have hit1 : μ1 it = _ := hg ▸ updM_eq _ _ _
  have loop : ∀ (rem k : Nat) (lr : Int32) (μ2 : zM), k + rem = pcn P 9 → zKp zF μ μ2 → μ2 it = some (zTI, oItr k lr (c 3) (A 7 3)) → AW G 5 MX1_showsOf (zAns (tSumR (fun i => if P 3 i 0 = x ∧ P 3 i 3 = y then 1 else 0) (pcn P 9)) μ) 0 0 13 [(0, .ref p), (1, .int x), (2, .int y), (3, .int (tSumR (fun i => if P 3 i 0 = x ∧ P 3 i 3 = y then 1 else 0) k)), (4, .ref it)] [] μ2 := by
    intro rem
    induction rem with
    | zero =>
      intro k lr μ2 hk hkp hi
      have ek : k = pcn P 9 := by omega
      have hL2 := (zF.pr h hkp).lsh
      obtain ⟨_, chL2⟩ := hL2.cell
      first | refine aw_aload (q := 15) dX1_showsOf_13 rfl rfl ?_ | refine aw_aloadN (q := 15) dX1_showsOf_13 rfl rfl ?_ | refine aw_aloadQ (q := 15) dX1_showsOf_13 rfl rfl ?_
      refine aw_callF (q := 20) dX1_showsOf_15 (C_Itr_hasNext hL2 hi) cf_X1_56_11 (by assumption) rfl rfl (by decide) (by decide) (by first | exact Nat.le_of_ble_eq_true rfl | simp [zcat_rf, Value.category]) rfl (zpk ?_)
      refine aw_if_eq (tgt := 64) (q := 23) dX1_showsOf_20 (by decide) rfl (fun _ => ?_) (fun hZ => absurd ((zB_f (fun q => q (by rw [ek])))) hZ)
      refine aw_iload_n (i := 3) (q := 65) dX1_showsOf_64 rfl rfl rfl ?_
      exact aw_ireturn dX1_showsOf_65 rfl (by first | rfl | exact zB_nar _) (⟨by rw [ek], hkp⟩)
    | succ rem ih =>
      intro k lr μ2 hk hkp hi
      have hkn : k < pcn P 9 := by omega
      have h2 := zF.pr h hkp
      have hL2 := h2.lsh
      obtain ⟨_, chL2⟩ := hL2.cell
      first | refine aw_aload (q := 15) dX1_showsOf_13 rfl rfl ?_ | refine aw_aloadN (q := 15) dX1_showsOf_13 rfl rfl ?_ | refine aw_aloadQ (q := 15) dX1_showsOf_13 rfl rfl ?_
      refine aw_callF (q := 20) dX1_showsOf_15 (C_Itr_hasNext hL2 hi) cf_X1_56_11 (by assumption) rfl rfl (by decide) (by decide) (by first | exact Nat.le_of_ble_eq_true rfl | simp [zcat_rf, Value.category]) rfl (zpk ?_)
      refine aw_if_eq (tgt := 64) (q := 23) dX1_showsOf_20 (by decide) rfl (fun hZ => absurd hZ (zHn hkn (by omega))) (fun _ => ?_)
      first | refine aw_aload (q := 25) dX1_showsOf_23 rfl rfl ?_ | refine aw_aloadN (q := 25) dX1_showsOf_23 rfl rfl ?_ | refine aw_aloadQ (q := 25) dX1_showsOf_23 rfl rfl ?_
      refine aw_callF (q := 30) dX1_showsOf_25 (C_Itr_next hL2 hi hkn zTI_nz zTI_ls zTI_la) cf_X1_62_11 (by assumption) rfl rfl (by decide) (by decide) (by first | exact Nat.le_of_ble_eq_true rfl | simp [zcat_rf, Value.category]) rfl (fun v25 μ3 hp => ?_)
      obtain ⟨rfl, hg3⟩ := hp
      have hkp3 : zKp zF μ μ3 := hg3 ▸ hkp.it hitn
      have hi3 : μ3 it = _ := hg3 ▸ updM_eq _ _ _
      have h3 := zF.pr h hkp3
      obtain ⟨t, r, f, hob, htm, -, -⟩ := h3.sh hkn
      refine aw_cast (q := 33) dX1_showsOf_30 q535 hob ca_5_X5 rfl ?_
      first | refine aw_astore (q := 35) dX1_showsOf_33 (by decide) rfl ?_ | refine aw_astoreN (q := 35) dX1_showsOf_33 (by decide) rfl ?_ | refine aw_astoreQ (q := 35) dX1_showsOf_33 (by decide) rfl ?_
      try simp (config := {decide := true}) only [zput, zdel_q, zdel_f, zdel_t, zdel_nil, zdel_r, zdel_i, zdel_n]
      refine aw_iload_n (i := 3) (q := 36) dX1_showsOf_35 rfl rfl rfl ?_
      first | refine aw_aload (q := 38) dX1_showsOf_36 rfl rfl ?_ | refine aw_aloadN (q := 38) dX1_showsOf_36 rfl rfl ?_ | refine aw_aloadQ (q := 38) dX1_showsOf_36 rfl rfl ?_
      refine aw_getfield (q := 41) dX1_showsOf_38 gf_X1_186_5 (by assumption) rfl rfl ?_
      refine aw_iload_n (i := 1) (q := 42) dX1_showsOf_41 rfl rfl rfl ?_
      refine aw_icmp_ne (tgt := 58) (q := 45) dX1_showsOf_42 (by decide) rfl (fun h1 => ?_) (fun h1 => ?_)
      · refine aw_iconst (v := 0) (q := 59) dX1_showsOf_58 rfl rfl ?_
        refine aw_iadd (q := 60) dX1_showsOf_59 rfl ?_
        refine aw_istore_n (i := 3) (q := 61) dX1_showsOf_60 rfl (by decide) rfl ?_
        refine aw_goto (tgt := 13) dX1_showsOf_61 (by decide) ?_
        exact AW.bud (aw_locals (by exact ⟨rfl, rfl, rfl, by rw [show tSumR _ (k + 1) = tSumR _ k + _ from rfl, if_neg (fun q => h1 q.1)]; rfl, rfl, trivial⟩) (ih (k + 1) _ μ3 (by omega) hkp3 hi3)) (by omega) (by omega)
      · first | refine aw_aload (q := 47) dX1_showsOf_45 rfl rfl ?_ | refine aw_aloadN (q := 47) dX1_showsOf_45 rfl rfl ?_ | refine aw_aloadQ (q := 47) dX1_showsOf_45 rfl rfl ?_
        refine aw_getfield (q := 50) dX1_showsOf_47 gf_X1_263_5 (by assumption) rfl rfl ?_
        refine aw_iload_n (i := 2) (q := 51) dX1_showsOf_50 rfl rfl rfl ?_
        refine aw_icmp_ne (tgt := 58) (q := 54) dX1_showsOf_51 (by decide) rfl (fun h2 => ?_) (fun h2 => ?_)
        · refine aw_iconst (v := 0) (q := 59) dX1_showsOf_58 rfl rfl ?_
          refine aw_iadd (q := 60) dX1_showsOf_59 rfl ?_
          refine aw_istore_n (i := 3) (q := 61) dX1_showsOf_60 rfl (by decide) rfl ?_
          refine aw_goto (tgt := 13) dX1_showsOf_61 (by decide) ?_
          exact AW.bud (aw_locals (by exact ⟨rfl, rfl, rfl, by rw [show tSumR _ (k + 1) = tSumR _ k + _ from rfl, if_neg (fun q => h2 q.2)]; rfl, rfl, trivial⟩) (ih (k + 1) _ μ3 (by omega) hkp3 hi3)) (by omega) (by omega)
        · refine aw_iconst (v := 1) (q := 55) dX1_showsOf_54 rfl rfl ?_
          refine aw_goto (tgt := 59) dX1_showsOf_55 (by decide) ?_
          refine aw_iadd (q := 60) dX1_showsOf_59 rfl ?_
          refine aw_istore_n (i := 3) (q := 61) dX1_showsOf_60 rfl (by decide) rfl ?_
          refine aw_goto (tgt := 13) dX1_showsOf_61 (by decide) ?_
          exact AW.bud (aw_locals (by exact ⟨rfl, rfl, rfl, by rw [show tSumR _ (k + 1) = tSumR _ k + _ from rfl, if_pos ⟨h1, h2⟩]; rfl, rfl, trivial⟩) (ih (k + 1) _ μ3 (by omega) hkp3 hi3)) (by omega) (by omega)
  exact AW.bud (aw_locals (by exact ⟨rfl, rfl, rfl, rfl, rfl, trivial⟩) (loop (pcn P 9) 0 (-1) μ1 (by omega) hk1 hit1)) (by omega) (by omega)
theorem C_rest {x : Int32} (h : zPR G μ p o P A c) (hO : tOk P) (hx : x = 1 ∨ x = 0) : Meets G 5 MX1_rest [.ref p, .int x] μ (zAns (tSumR (fun i => if (0 ≤ P 4 i 2 ↔ x = 1) then P 4 i 5 - P 4 i 6 else 0) (pcn P 10)) μ) 1 4 := by
  have hL := h.lbk
  obtain ⟨_, chL⟩ := hL.cell
  have hcn : pcn P 10 ≤ 80 := Nat.le_trans hO.b.2 (by decide)
  have hp := h.1
  refine meets_of (by decide +kernel) (Nat.le_of_ble_eq_true rfl) ?_
  refine aw_iconst (v := 0) (q := 1) dX1_rest_0 rfl rfl ?_
  refine aw_istore_n (i := 2) (q := 2) dX1_rest_1 rfl (by decide) rfl ?_
  first | refine aw_aload_n (i := 0) (q := 3) dX1_rest_2 rfl rfl rfl ?_ | refine aw_aloadN_n (i := 0) (q := 3) dX1_rest_2 rfl rfl rfl ?_ | refine aw_aloadQ_n (i := 0) (q := 3) dX1_rest_2 rfl rfl rfl ?_
  refine aw_getfield (q := 6) dX1_rest_3 gf_X1_28_1 (by assumption) rfl rfl ?_
  refine aw_callF (q := 11) dX1_rest_6 (C_AL_iterator (u := zTI) hL zTI_nz) cf_X1_50_14 (by assumption) rfl rfl (by decide) (by decide) (by first | exact Nat.le_of_ble_eq_true rfl | simp [zcat_rf, Value.category]) rfl (fun v6 μ1 hp => ?_)
  obtain ⟨it, rfl, hitn, hg⟩ := hp
  first | refine aw_astore_n (i := 3) (q := 12) dX1_rest_11 rfl (by decide) rfl ?_ | refine aw_astoreN_n (i := 3) (q := 12) dX1_rest_11 rfl (by decide) rfl ?_ | refine aw_astoreQ_n (i := 3) (q := 12) dX1_rest_11 rfl (by decide) rfl ?_
  have hk1 : zKp zF μ μ1 := hg ▸ zKp.new hitn
  have hit1 : μ1 it = _ := hg ▸ updM_eq _ _ _
  have loop : ∀ (rem k : Nat) (lr : Int32) (μ2 : zM), k + rem = pcn P 10 → zKp zF μ μ2 → μ2 it = some (zTI, oItr k lr (c 4) (A 7 4)) → AW G 5 MX1_rest (zAns (tSumR (fun i => if (0 ≤ P 4 i 2 ↔ x = 1) then P 4 i 5 - P 4 i 6 else 0) (pcn P 10)) μ) 0 0 12 [(0, .ref p), (1, .int x), (2, .int (tSumR (fun i => if (0 ≤ P 4 i 2 ↔ x = 1) then P 4 i 5 - P 4 i 6 else 0) k)), (3, .ref it)] [] μ2 := by
    intro rem
    induction rem with
    | zero =>
      intro k lr μ2 hk hkp hi
      have ek : k = pcn P 10 := by omega
      have hL2 := (zF.pr h hkp).lbk
      obtain ⟨_, chL2⟩ := hL2.cell
      first | refine aw_aload_n (i := 3) (q := 13) dX1_rest_12 rfl rfl rfl ?_ | refine aw_aloadN_n (i := 3) (q := 13) dX1_rest_12 rfl rfl rfl ?_ | refine aw_aloadQ_n (i := 3) (q := 13) dX1_rest_12 rfl rfl rfl ?_
      refine aw_callF (q := 18) dX1_rest_13 (C_Itr_hasNext hL2 hi) cf_X1_56_11 (by assumption) rfl rfl (by decide) (by decide) (by first | exact Nat.le_of_ble_eq_true rfl | simp [zcat_rf, Value.category]) rfl (zpk ?_)
      refine aw_if_eq (tgt := 70) (q := 21) dX1_rest_18 (by decide) rfl (fun _ => ?_) (fun hZ => absurd ((zB_f (fun q => q (by rw [ek])))) hZ)
      refine aw_iload_n (i := 2) (q := 71) dX1_rest_70 rfl rfl rfl ?_
      exact aw_ireturn dX1_rest_71 rfl (by first | rfl | exact zB_nar _) (⟨by rw [ek], hkp⟩)
    | succ rem ih =>
      intro k lr μ2 hk hkp hi
      have hkn : k < pcn P 10 := by omega
      have h2 := zF.pr h hkp
      have hL2 := h2.lbk
      obtain ⟨_, chL2⟩ := hL2.cell
      first | refine aw_aload_n (i := 3) (q := 13) dX1_rest_12 rfl rfl rfl ?_ | refine aw_aloadN_n (i := 3) (q := 13) dX1_rest_12 rfl rfl rfl ?_ | refine aw_aloadQ_n (i := 3) (q := 13) dX1_rest_12 rfl rfl rfl ?_
      refine aw_callF (q := 18) dX1_rest_13 (C_Itr_hasNext hL2 hi) cf_X1_56_11 (by assumption) rfl rfl (by decide) (by decide) (by first | exact Nat.le_of_ble_eq_true rfl | simp [zcat_rf, Value.category]) rfl (zpk ?_)
      refine aw_if_eq (tgt := 70) (q := 21) dX1_rest_18 (by decide) rfl (fun hZ => absurd hZ (zHn hkn (by omega))) (fun _ => ?_)
      first | refine aw_aload_n (i := 3) (q := 22) dX1_rest_21 rfl rfl rfl ?_ | refine aw_aloadN_n (i := 3) (q := 22) dX1_rest_21 rfl rfl rfl ?_ | refine aw_aloadQ_n (i := 3) (q := 22) dX1_rest_21 rfl rfl rfl ?_
      refine aw_callF (q := 27) dX1_rest_22 (C_Itr_next hL2 hi hkn zTI_nz zTI_ls zTI_la) cf_X1_62_11 (by assumption) rfl rfl (by decide) (by decide) (by first | exact Nat.le_of_ble_eq_true rfl | simp [zcat_rf, Value.category]) rfl (fun v22 μ3 hp => ?_)
      obtain ⟨rfl, hg3⟩ := hp
      have hkp3 : zKp zF μ μ3 := hg3 ▸ hkp.it hitn
      have hi3 : μ3 it = _ := hg3 ▸ updM_eq _ _ _
      have h3 := zF.pr h hkp3
      obtain ⟨r, f, hob, -, -⟩ := h3.bk hkn
      refine aw_cast (q := 30) dX1_rest_27 q583 hob ca_6_X6 rfl ?_
      first | refine aw_astore (q := 32) dX1_rest_30 (by decide) rfl ?_ | refine aw_astoreN (q := 32) dX1_rest_30 (by decide) rfl ?_ | refine aw_astoreQ (q := 32) dX1_rest_30 (by decide) rfl ?_
      try simp (config := {decide := true}) only [zput, zdel_q, zdel_f, zdel_t, zdel_nil, zdel_r, zdel_i, zdel_n]
      refine aw_iload_n (i := 2) (q := 33) dX1_rest_32 rfl rfl rfl ?_
      first | refine aw_aload (q := 35) dX1_rest_33 rfl rfl ?_ | refine aw_aloadN (q := 35) dX1_rest_33 rfl rfl ?_ | refine aw_aloadQ (q := 35) dX1_rest_33 rfl rfl ?_
      refine aw_getfield (q := 38) dX1_rest_35 gf_X1_312_6 (by assumption) rfl rfl ?_
      refine aw_if_lt (tgt := 45) (q := 41) dX1_rest_38 (by decide) rfl (fun h1 => ?_) (fun h1 => ?_)
      · refine aw_iconst (v := 0) (q := 46) dX1_rest_45 rfl rfl ?_
        refine aw_iload_n (i := 1) (q := 47) dX1_rest_46 rfl rfl rfl ?_
        refine aw_icmp_ne (tgt := 64) (q := 50) dX1_rest_47 (by decide) rfl (fun h2 => ?_) (fun h2 => ?_)
        · refine aw_iconst (v := 0) (q := 65) dX1_rest_64 rfl rfl ?_
          refine aw_iadd (q := 66) dX1_rest_65 rfl ?_
          refine aw_istore_n (i := 2) (q := 67) dX1_rest_66 rfl (by decide) rfl ?_
          refine aw_goto (tgt := 12) dX1_rest_67 (by decide) ?_
          exact AW.bud (aw_locals (by exact ⟨rfl, rfl, by rw [show tSumR _ (k + 1) = tSumR _ k + _ from rfl, if_neg (fun q => absurd (q.mpr (hx.resolve_right (fun e => h2 e.symm))) (Int32.not_le.mpr h1))]; rfl, rfl, trivial⟩) (ih (k + 1) _ μ3 (by omega) hkp3 hi3)) (by omega) (by omega)
        · first | refine aw_aload (q := 52) dX1_rest_50 rfl rfl ?_ | refine aw_aloadN (q := 52) dX1_rest_50 rfl rfl ?_ | refine aw_aloadQ (q := 52) dX1_rest_50 rfl rfl ?_
          refine aw_getfield (q := 55) dX1_rest_52 gf_X1_169_6 (by assumption) rfl rfl ?_
          first | refine aw_aload (q := 57) dX1_rest_55 rfl rfl ?_ | refine aw_aloadN (q := 57) dX1_rest_55 rfl rfl ?_ | refine aw_aloadQ (q := 57) dX1_rest_55 rfl rfl ?_
          refine aw_getfield (q := 60) dX1_rest_57 gf_X1_290_6 (by assumption) rfl rfl ?_
          refine aw_isub (q := 61) dX1_rest_60 rfl ?_
          refine aw_goto (tgt := 65) dX1_rest_61 (by decide) ?_
          refine aw_iadd (q := 66) dX1_rest_65 rfl ?_
          refine aw_istore_n (i := 2) (q := 67) dX1_rest_66 rfl (by decide) rfl ?_
          refine aw_goto (tgt := 12) dX1_rest_67 (by decide) ?_
          exact AW.bud (aw_locals (by exact ⟨rfl, rfl, by rw [show tSumR _ (k + 1) = tSumR _ k + _ from rfl, if_pos ⟨fun q => absurd q (Int32.not_le.mpr h1), fun q => absurd (h2.trans q) (by decide)⟩]; rfl, rfl, trivial⟩) (ih (k + 1) _ μ3 (by omega) hkp3 hi3)) (by omega) (by omega)
      · refine aw_iconst (v := 1) (q := 42) dX1_rest_41 rfl rfl ?_
        refine aw_goto (tgt := 46) dX1_rest_42 (by decide) ?_
        refine aw_iload_n (i := 1) (q := 47) dX1_rest_46 rfl rfl rfl ?_
        refine aw_icmp_ne (tgt := 64) (q := 50) dX1_rest_47 (by decide) rfl (fun h2 => ?_) (fun h2 => ?_)
        · refine aw_iconst (v := 0) (q := 65) dX1_rest_64 rfl rfl ?_
          refine aw_iadd (q := 66) dX1_rest_65 rfl ?_
          refine aw_istore_n (i := 2) (q := 67) dX1_rest_66 rfl (by decide) rfl ?_
          refine aw_goto (tgt := 12) dX1_rest_67 (by decide) ?_
          exact AW.bud (aw_locals (by exact ⟨rfl, rfl, by rw [show tSumR _ (k + 1) = tSumR _ k + _ from rfl, if_neg (fun q => h2 (q.mp (Int32.not_lt.mp h1)).symm)]; rfl, rfl, trivial⟩) (ih (k + 1) _ μ3 (by omega) hkp3 hi3)) (by omega) (by omega)
        · first | refine aw_aload (q := 52) dX1_rest_50 rfl rfl ?_ | refine aw_aloadN (q := 52) dX1_rest_50 rfl rfl ?_ | refine aw_aloadQ (q := 52) dX1_rest_50 rfl rfl ?_
          refine aw_getfield (q := 55) dX1_rest_52 gf_X1_169_6 (by assumption) rfl rfl ?_
          first | refine aw_aload (q := 57) dX1_rest_55 rfl rfl ?_ | refine aw_aloadN (q := 57) dX1_rest_55 rfl rfl ?_ | refine aw_aloadQ (q := 57) dX1_rest_55 rfl rfl ?_
          refine aw_getfield (q := 60) dX1_rest_57 gf_X1_290_6 (by assumption) rfl rfl ?_
          refine aw_isub (q := 61) dX1_rest_60 rfl ?_
          refine aw_goto (tgt := 65) dX1_rest_61 (by decide) ?_
          refine aw_iadd (q := 66) dX1_rest_65 rfl ?_
          refine aw_istore_n (i := 2) (q := 67) dX1_rest_66 rfl (by decide) rfl ?_
          refine aw_goto (tgt := 12) dX1_rest_67 (by decide) ?_
          exact AW.bud (aw_locals (by exact ⟨rfl, rfl, by rw [show tSumR _ (k + 1) = tSumR _ k + _ from rfl, if_pos ⟨fun _ => h2.symm, fun _ => Int32.not_lt.mp h1⟩]; rfl, rfl, trivial⟩) (ih (k + 1) _ μ3 (by omega) hkp3 hi3)) (by omega) (by omega)
  exact AW.bud (aw_locals (by exact ⟨rfl, rfl, rfl, rfl, trivial⟩) (loop (pcn P 10) 0 (-1) μ1 (by omega) hk1 hit1)) (by omega) (by omega)
theorem C_lostSeats (h : zPR G μ p o P A c) (hO : tOk P) : Meets G 5 MX1_lostSeats [.ref p] μ (zAns (tSumR (fun i => if P 4 i 4 = 4 then P 4 i 1 else 0) (pcn P 10)) μ) 1 4 := by
  have hL := h.lbk
  obtain ⟨_, chL⟩ := hL.cell
  have hcn : pcn P 10 ≤ 80 := Nat.le_trans hO.b.2 (by decide)
  have hp := h.1
  refine meets_of (by decide +kernel) (Nat.le_of_ble_eq_true rfl) ?_
  refine aw_iconst (v := 0) (q := 1) dX1_lostSeats_0 rfl rfl ?_
  refine aw_istore_n (i := 1) (q := 2) dX1_lostSeats_1 rfl (by decide) rfl ?_
  first | refine aw_aload_n (i := 0) (q := 3) dX1_lostSeats_2 rfl rfl rfl ?_ | refine aw_aloadN_n (i := 0) (q := 3) dX1_lostSeats_2 rfl rfl rfl ?_ | refine aw_aloadQ_n (i := 0) (q := 3) dX1_lostSeats_2 rfl rfl rfl ?_
  refine aw_getfield (q := 6) dX1_lostSeats_3 gf_X1_28_1 (by assumption) rfl rfl ?_
  refine aw_callF (q := 11) dX1_lostSeats_6 (C_AL_iterator (u := zTI) hL zTI_nz) cf_X1_50_14 (by assumption) rfl rfl (by decide) (by decide) (by first | exact Nat.le_of_ble_eq_true rfl | simp [zcat_rf, Value.category]) rfl (fun v6 μ1 hp => ?_)
  obtain ⟨it, rfl, hitn, hg⟩ := hp
  first | refine aw_astore_n (i := 2) (q := 12) dX1_lostSeats_11 rfl (by decide) rfl ?_ | refine aw_astoreN_n (i := 2) (q := 12) dX1_lostSeats_11 rfl (by decide) rfl ?_ | refine aw_astoreQ_n (i := 2) (q := 12) dX1_lostSeats_11 rfl (by decide) rfl ?_
  have hk1 : zKp zF μ μ1 := hg ▸ zKp.new hitn
  have hit1 : μ1 it = _ := hg ▸ updM_eq _ _ _
  have loop : ∀ (rem k : Nat) (lr : Int32) (μ2 : zM), k + rem = pcn P 10 → zKp zF μ μ2 → μ2 it = some (zTI, oItr k lr (c 4) (A 7 4)) → AW G 5 MX1_lostSeats (zAns (tSumR (fun i => if P 4 i 4 = 4 then P 4 i 1 else 0) (pcn P 10)) μ) 0 0 12 [(0, .ref p), (1, .int (tSumR (fun i => if P 4 i 4 = 4 then P 4 i 1 else 0) k)), (2, .ref it)] [] μ2 := by
    intro rem
    induction rem with
    | zero =>
      intro k lr μ2 hk hkp hi
      have ek : k = pcn P 10 := by omega
      have hL2 := (zF.pr h hkp).lbk
      obtain ⟨_, chL2⟩ := hL2.cell
      first | refine aw_aload_n (i := 2) (q := 13) dX1_lostSeats_12 rfl rfl rfl ?_ | refine aw_aloadN_n (i := 2) (q := 13) dX1_lostSeats_12 rfl rfl rfl ?_ | refine aw_aloadQ_n (i := 2) (q := 13) dX1_lostSeats_12 rfl rfl rfl ?_
      refine aw_callF (q := 18) dX1_lostSeats_13 (C_Itr_hasNext hL2 hi) cf_X1_56_11 (by assumption) rfl rfl (by decide) (by decide) (by first | exact Nat.le_of_ble_eq_true rfl | simp [zcat_rf, Value.category]) rfl (zpk ?_)
      refine aw_if_eq (tgt := 53) (q := 21) dX1_lostSeats_18 (by decide) rfl (fun _ => ?_) (fun hZ => absurd ((zB_f (fun q => q (by rw [ek])))) hZ)
      refine aw_iload_n (i := 1) (q := 54) dX1_lostSeats_53 rfl rfl rfl ?_
      exact aw_ireturn dX1_lostSeats_54 rfl (by first | rfl | exact zB_nar _) (⟨by rw [ek], hkp⟩)
    | succ rem ih =>
      intro k lr μ2 hk hkp hi
      have hkn : k < pcn P 10 := by omega
      have h2 := zF.pr h hkp
      have hL2 := h2.lbk
      obtain ⟨_, chL2⟩ := hL2.cell
      first | refine aw_aload_n (i := 2) (q := 13) dX1_lostSeats_12 rfl rfl rfl ?_ | refine aw_aloadN_n (i := 2) (q := 13) dX1_lostSeats_12 rfl rfl rfl ?_ | refine aw_aloadQ_n (i := 2) (q := 13) dX1_lostSeats_12 rfl rfl rfl ?_
      refine aw_callF (q := 18) dX1_lostSeats_13 (C_Itr_hasNext hL2 hi) cf_X1_56_11 (by assumption) rfl rfl (by decide) (by decide) (by first | exact Nat.le_of_ble_eq_true rfl | simp [zcat_rf, Value.category]) rfl (zpk ?_)
      refine aw_if_eq (tgt := 53) (q := 21) dX1_lostSeats_18 (by decide) rfl (fun hZ => absurd hZ (zHn hkn (by omega))) (fun _ => ?_)
      first | refine aw_aload_n (i := 2) (q := 22) dX1_lostSeats_21 rfl rfl rfl ?_ | refine aw_aloadN_n (i := 2) (q := 22) dX1_lostSeats_21 rfl rfl rfl ?_ | refine aw_aloadQ_n (i := 2) (q := 22) dX1_lostSeats_21 rfl rfl rfl ?_
      refine aw_callF (q := 27) dX1_lostSeats_22 (C_Itr_next hL2 hi hkn zTI_nz zTI_ls zTI_la) cf_X1_62_11 (by assumption) rfl rfl (by decide) (by decide) (by first | exact Nat.le_of_ble_eq_true rfl | simp [zcat_rf, Value.category]) rfl (fun v22 μ3 hp => ?_)
      obtain ⟨rfl, hg3⟩ := hp
      have hkp3 : zKp zF μ μ3 := hg3 ▸ hkp.it hitn
      have hi3 : μ3 it = _ := hg3 ▸ updM_eq _ _ _
      have h3 := zF.pr h hkp3
      obtain ⟨r, f, hob, -, -⟩ := h3.bk hkn
      refine aw_cast (q := 30) dX1_lostSeats_27 q583 hob ca_6_X6 rfl ?_
      first | refine aw_astore_n (i := 3) (q := 31) dX1_lostSeats_30 rfl (by decide) rfl ?_ | refine aw_astoreN_n (i := 3) (q := 31) dX1_lostSeats_30 rfl (by decide) rfl ?_ | refine aw_astoreQ_n (i := 3) (q := 31) dX1_lostSeats_30 rfl (by decide) rfl ?_
      try simp (config := {decide := true}) only [zput, zdel_q, zdel_f, zdel_t, zdel_nil, zdel_r, zdel_i, zdel_n]
      refine aw_iload_n (i := 1) (q := 32) dX1_lostSeats_31 rfl rfl rfl ?_
      first | refine aw_aload_n (i := 3) (q := 33) dX1_lostSeats_32 rfl rfl rfl ?_ | refine aw_aloadN_n (i := 3) (q := 33) dX1_lostSeats_32 rfl rfl rfl ?_ | refine aw_aloadQ_n (i := 3) (q := 33) dX1_lostSeats_32 rfl rfl rfl ?_
      refine aw_getfield (q := 36) dX1_lostSeats_33 gf_X1_176_6 (by assumption) rfl rfl ?_
      refine aw_iconst (v := 4) (q := 37) dX1_lostSeats_36 rfl rfl ?_
      refine aw_icmp_ne (tgt := 47) (q := 40) dX1_lostSeats_37 (by decide) rfl (fun hc => ?_) (fun hc => ?_)
      · refine aw_iconst (v := 0) (q := 48) dX1_lostSeats_47 rfl rfl ?_
        refine aw_iadd (q := 49) dX1_lostSeats_48 rfl ?_
        refine aw_istore_n (i := 1) (q := 50) dX1_lostSeats_49 rfl (by decide) rfl ?_
        refine aw_goto (tgt := 12) dX1_lostSeats_50 (by decide) ?_
        exact AW.bud (aw_locals (by exact ⟨rfl, by rw [show tSumR _ (k + 1) = tSumR _ k + _ from rfl, if_neg hc]; rfl, rfl, trivial⟩) (ih (k + 1) _ μ3 (by omega) hkp3 hi3)) (by omega) (by omega)
      · first | refine aw_aload_n (i := 3) (q := 41) dX1_lostSeats_40 rfl rfl rfl ?_ | refine aw_aloadN_n (i := 3) (q := 41) dX1_lostSeats_40 rfl rfl rfl ?_ | refine aw_aloadQ_n (i := 3) (q := 41) dX1_lostSeats_40 rfl rfl rfl ?_
        refine aw_getfield (q := 44) dX1_lostSeats_41 gf_X1_162_6 (by assumption) rfl rfl ?_
        refine aw_goto (tgt := 48) dX1_lostSeats_44 (by decide) ?_
        refine aw_iadd (q := 49) dX1_lostSeats_48 rfl ?_
        refine aw_istore_n (i := 1) (q := 50) dX1_lostSeats_49 rfl (by decide) rfl ?_
        refine aw_goto (tgt := 12) dX1_lostSeats_50 (by decide) ?_
        exact AW.bud (aw_locals (by exact ⟨rfl, by rw [show tSumR _ (k + 1) = tSumR _ k + _ from rfl, if_pos hc]; rfl, rfl, trivial⟩) (ih (k + 1) _ μ3 (by omega) hkp3 hi3)) (by omega) (by omega)
  exact AW.bud (aw_locals (by exact ⟨rfl, rfl, rfl, trivial⟩) (loop (pcn P 10) 0 (-1) μ1 (by omega) hk1 hit1)) (by omega) (by omega)
theorem C_allRefunded (h : zPR G μ p o P A c) (hO : tOk P) (hm : ∀ b, b < pcn P 10 → ∃ r, r ≤ 2 ^ 24 ∧ P 4 b 6 = nI r) : Meets G 5 MX1_allRefunded [.ref p] μ (zAns (tSumR (fun i => P 4 i 6) (pcn P 10)) μ) 1 4 := by
  have hL := h.lbk
  obtain ⟨_, chL⟩ := hL.cell
  have hcn : pcn P 10 ≤ 80 := Nat.le_trans hO.b.2 (by decide)
  have hp := h.1
  refine meets_of (by decide +kernel) (Nat.le_of_ble_eq_true rfl) ?_
  refine aw_iconst (v := 0) (q := 1) dX1_allRefunded_0 rfl rfl ?_
  refine aw_istore_n (i := 1) (q := 2) dX1_allRefunded_1 rfl (by decide) rfl ?_
  first | refine aw_aload_n (i := 0) (q := 3) dX1_allRefunded_2 rfl rfl rfl ?_ | refine aw_aloadN_n (i := 0) (q := 3) dX1_allRefunded_2 rfl rfl rfl ?_ | refine aw_aloadQ_n (i := 0) (q := 3) dX1_allRefunded_2 rfl rfl rfl ?_
  refine aw_getfield (q := 6) dX1_allRefunded_3 gf_X1_28_1 (by assumption) rfl rfl ?_
  refine aw_callF (q := 11) dX1_allRefunded_6 (C_AL_iterator (u := zTI) hL zTI_nz) cf_X1_50_14 (by assumption) rfl rfl (by decide) (by decide) (by first | exact Nat.le_of_ble_eq_true rfl | simp [zcat_rf, Value.category]) rfl (fun v6 μ1 hp => ?_)
  obtain ⟨it, rfl, hitn, hg⟩ := hp
  first | refine aw_astore_n (i := 2) (q := 12) dX1_allRefunded_11 rfl (by decide) rfl ?_ | refine aw_astoreN_n (i := 2) (q := 12) dX1_allRefunded_11 rfl (by decide) rfl ?_ | refine aw_astoreQ_n (i := 2) (q := 12) dX1_allRefunded_11 rfl (by decide) rfl ?_
  have hk1 : zKp zF μ μ1 := hg ▸ zKp.new hitn
  have hit1 : μ1 it = _ := hg ▸ updM_eq _ _ _
  have loop : ∀ (rem k : Nat) (lr : Int32) (μ2 : zM), k + rem = pcn P 10 → zKp zF μ μ2 → μ2 it = some (zTI, oItr k lr (c 4) (A 7 4)) → AW G 5 MX1_allRefunded (zAns (tSumR (fun i => P 4 i 6) (pcn P 10)) μ) 0 0 12 [(0, .ref p), (1, .int (tSumR (fun i => P 4 i 6) k)), (2, .ref it)] [] μ2 := by
    intro rem
    induction rem with
    | zero =>
      intro k lr μ2 hk hkp hi
      have ek : k = pcn P 10 := by omega
      have hL2 := (zF.pr h hkp).lbk
      obtain ⟨_, chL2⟩ := hL2.cell
      first | refine aw_aload_n (i := 2) (q := 13) dX1_allRefunded_12 rfl rfl rfl ?_ | refine aw_aloadN_n (i := 2) (q := 13) dX1_allRefunded_12 rfl rfl rfl ?_ | refine aw_aloadQ_n (i := 2) (q := 13) dX1_allRefunded_12 rfl rfl rfl ?_
      refine aw_callF (q := 18) dX1_allRefunded_13 (C_Itr_hasNext hL2 hi) cf_X1_56_11 (by assumption) rfl rfl (by decide) (by decide) (by first | exact Nat.le_of_ble_eq_true rfl | simp [zcat_rf, Value.category]) rfl (zpk ?_)
      refine aw_if_eq (tgt := 43) (q := 21) dX1_allRefunded_18 (by decide) rfl (fun _ => ?_) (fun hZ => absurd ((zB_f (fun q => q (by rw [ek])))) hZ)
      refine aw_iload_n (i := 1) (q := 44) dX1_allRefunded_43 rfl rfl rfl ?_
      exact aw_ireturn dX1_allRefunded_44 rfl (by first | rfl | exact zB_nar _) (⟨by rw [ek], hkp⟩)
    | succ rem ih =>
      intro k lr μ2 hk hkp hi
      have hkn : k < pcn P 10 := by omega
      have h2 := zF.pr h hkp
      have hL2 := h2.lbk
      obtain ⟨_, chL2⟩ := hL2.cell
      first | refine aw_aload_n (i := 2) (q := 13) dX1_allRefunded_12 rfl rfl rfl ?_ | refine aw_aloadN_n (i := 2) (q := 13) dX1_allRefunded_12 rfl rfl rfl ?_ | refine aw_aloadQ_n (i := 2) (q := 13) dX1_allRefunded_12 rfl rfl rfl ?_
      refine aw_callF (q := 18) dX1_allRefunded_13 (C_Itr_hasNext hL2 hi) cf_X1_56_11 (by assumption) rfl rfl (by decide) (by decide) (by first | exact Nat.le_of_ble_eq_true rfl | simp [zcat_rf, Value.category]) rfl (zpk ?_)
      refine aw_if_eq (tgt := 43) (q := 21) dX1_allRefunded_18 (by decide) rfl (fun hZ => absurd hZ (zHn hkn (by omega))) (fun _ => ?_)
      first | refine aw_aload_n (i := 2) (q := 22) dX1_allRefunded_21 rfl rfl rfl ?_ | refine aw_aloadN_n (i := 2) (q := 22) dX1_allRefunded_21 rfl rfl rfl ?_ | refine aw_aloadQ_n (i := 2) (q := 22) dX1_allRefunded_21 rfl rfl rfl ?_
      refine aw_callF (q := 27) dX1_allRefunded_22 (C_Itr_next hL2 hi hkn zTI_nz zTI_ls zTI_la) cf_X1_62_11 (by assumption) rfl rfl (by decide) (by decide) (by first | exact Nat.le_of_ble_eq_true rfl | simp [zcat_rf, Value.category]) rfl (fun v22 μ3 hp => ?_)
      obtain ⟨rfl, hg3⟩ := hp
      have hkp3 : zKp zF μ μ3 := hg3 ▸ hkp.it hitn
      have hi3 : μ3 it = _ := hg3 ▸ updM_eq _ _ _
      have h3 := zF.pr h hkp3
      obtain ⟨r, f, hob, -, -⟩ := h3.bk hkn
      refine aw_cast (q := 30) dX1_allRefunded_27 q583 hob ca_6_X6 rfl ?_
      first | refine aw_astore_n (i := 3) (q := 31) dX1_allRefunded_30 rfl (by decide) rfl ?_ | refine aw_astoreN_n (i := 3) (q := 31) dX1_allRefunded_30 rfl (by decide) rfl ?_ | refine aw_astoreQ_n (i := 3) (q := 31) dX1_allRefunded_30 rfl (by decide) rfl ?_
      try simp (config := {decide := true}) only [zput, zdel_q, zdel_f, zdel_t, zdel_nil, zdel_r, zdel_i, zdel_n]
      refine aw_iload_n (i := 1) (q := 32) dX1_allRefunded_31 rfl rfl rfl ?_
      first | refine aw_aload_n (i := 3) (q := 33) dX1_allRefunded_32 rfl rfl rfl ?_ | refine aw_aloadN_n (i := 3) (q := 33) dX1_allRefunded_32 rfl rfl rfl ?_ | refine aw_aloadQ_n (i := 3) (q := 33) dX1_allRefunded_32 rfl rfl rfl ?_
      refine aw_getfield (q := 36) dX1_allRefunded_33 gf_X1_290_6 (by assumption) rfl rfl ?_
      obtain ⟨e1, e2⟩ := zRfB hm hcn hkn
      refine aw_callS (q := 39) dX1_allRefunded_36 (C_addExact e1 e2) cs_X1_306 rfl rfl (by decide) (by decide) (by first | exact Nat.le_of_ble_eq_true rfl | simp [zcat_rf, Value.category]) rfl (zpk ?_)
      refine aw_istore_n (i := 1) (q := 40) dX1_allRefunded_39 rfl (by decide) rfl ?_
      refine aw_goto (tgt := 12) dX1_allRefunded_40 (by decide) ?_
      exact AW.bud (aw_locals (by exact ⟨rfl, rfl, rfl, trivial⟩) (ih (k + 1) _ μ3 (by omega) hkp3 hi3)) (by omega) (by omega)
  exact AW.bud (aw_locals (by exact ⟨rfl, rfl, rfl, trivial⟩) (loop (pcn P 10) 0 (-1) μ1 (by omega) hk1 hit1)) (by omega) (by omega)
theorem C_willBeSeen {q : Nat} (h : zPR G μ p o P A c) (hO : tOk P) (hB : tBkOk P) (hq : q < pcn P 12) : Meets G 5 MX1_willBeSeen [.ref p, .ref (A 6 q)] μ (zAns (tSumR (fun i => if P 4 i 4 = 0 ∧ P 6 q 4 = 0 ∧ P 4 i 2 = P 6 q 0 ∧ P 3 (tSh P i) 0 = P 6 q 1 ∧ P 3 (tSh P i) 1 ≤ P 6 q 3 then P 4 i 1 else 0) (pcn P 10)) μ) 1 4 := by
  have hL := h.lbk
  obtain ⟨_, chL⟩ := hL.cell
  have hcn : pcn P 10 ≤ 80 := Nat.le_trans hO.b.2 (by decide)
  have hp := h.1
  refine meets_of (by decide +kernel) (Nat.le_of_ble_eq_true rfl) ?_
  refine aw_iconst (v := 0) (q := 1) dX1_willBeSeen_0 rfl rfl ?_
  refine aw_istore_n (i := 2) (q := 2) dX1_willBeSeen_1 rfl (by decide) rfl ?_
  first | refine aw_aload_n (i := 0) (q := 3) dX1_willBeSeen_2 rfl rfl rfl ?_ | refine aw_aloadN_n (i := 0) (q := 3) dX1_willBeSeen_2 rfl rfl rfl ?_ | refine aw_aloadQ_n (i := 0) (q := 3) dX1_willBeSeen_2 rfl rfl rfl ?_
  refine aw_getfield (q := 6) dX1_willBeSeen_3 gf_X1_28_1 (by assumption) rfl rfl ?_
  refine aw_callF (q := 11) dX1_willBeSeen_6 (C_AL_iterator (u := zTI) hL zTI_nz) cf_X1_50_14 (by assumption) rfl rfl (by decide) (by decide) (by first | exact Nat.le_of_ble_eq_true rfl | simp [zcat_rf, Value.category]) rfl (fun v6 μ1 hp => ?_)
  obtain ⟨it, rfl, hitn, hg⟩ := hp
  first | refine aw_astore_n (i := 3) (q := 12) dX1_willBeSeen_11 rfl (by decide) rfl ?_ | refine aw_astoreN_n (i := 3) (q := 12) dX1_willBeSeen_11 rfl (by decide) rfl ?_ | refine aw_astoreQ_n (i := 3) (q := 12) dX1_willBeSeen_11 rfl (by decide) rfl ?_
  have hk1 : zKp zF μ μ1 := hg ▸ zKp.new hitn
  have hit1 : μ1 it = _ := hg ▸ updM_eq _ _ _
  have loop : ∀ (rem k : Nat) (lr : Int32) (μ2 : zM), k + rem = pcn P 10 → zKp zF μ μ2 → μ2 it = some (zTI, oItr k lr (c 4) (A 7 4)) → AW G 5 MX1_willBeSeen (zAns (tSumR (fun i => if P 4 i 4 = 0 ∧ P 6 q 4 = 0 ∧ P 4 i 2 = P 6 q 0 ∧ P 3 (tSh P i) 0 = P 6 q 1 ∧ P 3 (tSh P i) 1 ≤ P 6 q 3 then P 4 i 1 else 0) (pcn P 10)) μ) 0 0 12 [(0, .ref p), (1, .ref (A 6 q)), (2, .int (tSumR (fun i => if P 4 i 4 = 0 ∧ P 6 q 4 = 0 ∧ P 4 i 2 = P 6 q 0 ∧ P 3 (tSh P i) 0 = P 6 q 1 ∧ P 3 (tSh P i) 1 ≤ P 6 q 3 then P 4 i 1 else 0) k)), (3, .ref it)] [] μ2 := by
    intro rem
    induction rem with
    | zero =>
      intro k lr μ2 hk hkp hi
      have ek : k = pcn P 10 := by omega
      have hL2 := (zF.pr h hkp).lbk
      obtain ⟨_, chL2⟩ := hL2.cell
      first | refine aw_aload_n (i := 3) (q := 13) dX1_willBeSeen_12 rfl rfl rfl ?_ | refine aw_aloadN_n (i := 3) (q := 13) dX1_willBeSeen_12 rfl rfl rfl ?_ | refine aw_aloadQ_n (i := 3) (q := 13) dX1_willBeSeen_12 rfl rfl rfl ?_
      refine aw_callF (q := 18) dX1_willBeSeen_13 (C_Itr_hasNext hL2 hi) cf_X1_56_11 (by assumption) rfl rfl (by decide) (by decide) (by first | exact Nat.le_of_ble_eq_true rfl | simp [zcat_rf, Value.category]) rfl (zpk ?_)
      refine aw_if_eq (tgt := 85) (q := 21) dX1_willBeSeen_18 (by decide) rfl (fun _ => ?_) (fun hZ => absurd ((zB_f (fun q => q (by rw [ek])))) hZ)
      refine aw_iload_n (i := 2) (q := 86) dX1_willBeSeen_85 rfl rfl rfl ?_
      exact aw_ireturn dX1_willBeSeen_86 rfl (by first | rfl | exact zB_nar _) (⟨by rw [ek], hkp⟩)
    | succ rem ih =>
      intro k lr μ2 hk hkp hi
      have hkn : k < pcn P 10 := by omega
      have h2 := zF.pr h hkp
      have hL2 := h2.lbk
      obtain ⟨_, chL2⟩ := hL2.cell
      first | refine aw_aload_n (i := 3) (q := 13) dX1_willBeSeen_12 rfl rfl rfl ?_ | refine aw_aloadN_n (i := 3) (q := 13) dX1_willBeSeen_12 rfl rfl rfl ?_ | refine aw_aloadQ_n (i := 3) (q := 13) dX1_willBeSeen_12 rfl rfl rfl ?_
      refine aw_callF (q := 18) dX1_willBeSeen_13 (C_Itr_hasNext hL2 hi) cf_X1_56_11 (by assumption) rfl rfl (by decide) (by decide) (by first | exact Nat.le_of_ble_eq_true rfl | simp [zcat_rf, Value.category]) rfl (zpk ?_)
      refine aw_if_eq (tgt := 85) (q := 21) dX1_willBeSeen_18 (by decide) rfl (fun hZ => absurd hZ (zHn hkn (by omega))) (fun _ => ?_)
      first | refine aw_aload_n (i := 3) (q := 22) dX1_willBeSeen_21 rfl rfl rfl ?_ | refine aw_aloadN_n (i := 3) (q := 22) dX1_willBeSeen_21 rfl rfl rfl ?_ | refine aw_aloadQ_n (i := 3) (q := 22) dX1_willBeSeen_21 rfl rfl rfl ?_
      refine aw_callF (q := 27) dX1_willBeSeen_22 (C_Itr_next hL2 hi hkn zTI_nz zTI_ls zTI_la) cf_X1_62_11 (by assumption) rfl rfl (by decide) (by decide) (by first | exact Nat.le_of_ble_eq_true rfl | simp [zcat_rf, Value.category]) rfl (fun v22 μ3 hp => ?_)
      obtain ⟨rfl, hg3⟩ := hp
      have hkp3 : zKp zF μ μ3 := hg3 ▸ hkp.it hitn
      have hi3 : μ3 it = _ := hg3 ▸ updM_eq _ _ _
      have h3 := zF.pr h hkp3
      obtain ⟨r, f, hob, -, -⟩ := h3.bk hkn
      have hp3 := h3.1
      have s60 : pcn P 9 ≤ 60 := hO.s.2
      obtain ⟨bs1, bs2⟩ := hB k hkn
      rw [bs1] at hob
      have hLs := h3.lsh
      obtain ⟨_, chLs⟩ := hLs.cell
      obtain ⟨ts, rs, fs, hsh, htm, -, -⟩ := h3.sh bs2
      obtain ⟨rp, fp, hpr, -, -⟩ := h3.pr hq
      refine aw_cast (q := 30) dX1_willBeSeen_27 q583 hob ca_6_X6 rfl ?_
      first | refine aw_astore (q := 32) dX1_willBeSeen_30 (by decide) rfl ?_ | refine aw_astoreN (q := 32) dX1_willBeSeen_30 (by decide) rfl ?_ | refine aw_astoreQ (q := 32) dX1_willBeSeen_30 (by decide) rfl ?_
      try simp (config := {decide := true}) only [zput, zdel_q, zdel_f, zdel_t, zdel_nil, zdel_r, zdel_i, zdel_n]
      first | refine aw_aload_n (i := 0) (q := 33) dX1_willBeSeen_32 rfl rfl rfl ?_ | refine aw_aloadN_n (i := 0) (q := 33) dX1_willBeSeen_32 rfl rfl rfl ?_ | refine aw_aloadQ_n (i := 0) (q := 33) dX1_willBeSeen_32 rfl rfl rfl ?_
      refine aw_getfield (q := 36) dX1_willBeSeen_33 gf_X1_25_1 (by assumption) rfl rfl ?_
      first | refine aw_aload (q := 38) dX1_willBeSeen_36 rfl rfl ?_ | refine aw_aloadN (q := 38) dX1_willBeSeen_36 rfl rfl ?_ | refine aw_aloadQ (q := 38) dX1_willBeSeen_36 rfl rfl ?_
      refine aw_getfield (q := 41) dX1_willBeSeen_38 gf_X1_155_6 (by assumption) rfl rfl ?_
      refine aw_callF (q := 46) dX1_willBeSeen_41 (C_AL_get hLs bs2 (by omega)) cf_X1_115_14 (by assumption) rfl rfl (by decide) (by decide) (by first | exact Nat.le_of_ble_eq_true rfl | simp [zcat_rf, Value.category]) rfl (zpk ?_)
      refine aw_cast (q := 49) dX1_willBeSeen_46 q535 hsh ca_5_X5 rfl ?_
      first | refine aw_astore (q := 51) dX1_willBeSeen_49 (by decide) rfl ?_ | refine aw_astoreN (q := 51) dX1_willBeSeen_49 (by decide) rfl ?_ | refine aw_astoreQ (q := 51) dX1_willBeSeen_49 (by decide) rfl ?_
      try simp (config := {decide := true}) only [zput, zdel_q, zdel_f, zdel_t, zdel_nil, zdel_r, zdel_i, zdel_n]
      refine aw_iload_n (i := 2) (q := 52) dX1_willBeSeen_51 rfl rfl rfl ?_
      first | refine aw_aload (q := 54) dX1_willBeSeen_52 rfl rfl ?_ | refine aw_aloadN (q := 54) dX1_willBeSeen_52 rfl rfl ?_ | refine aw_aloadQ (q := 54) dX1_willBeSeen_52 rfl rfl ?_
      refine aw_getfield (q := 57) dX1_willBeSeen_54 gf_X1_176_6 (by assumption) rfl rfl ?_
      refine aw_if_ne (tgt := 79) (q := 60) dX1_willBeSeen_57 (by decide) rfl (fun h1 => ?_) (fun h1 => ?_)
      · refine aw_iconst (v := 0) (q := 80) dX1_willBeSeen_79 rfl rfl ?_
        refine aw_iadd (q := 81) dX1_willBeSeen_80 rfl ?_
        refine aw_istore_n (i := 2) (q := 82) dX1_willBeSeen_81 rfl (by decide) rfl ?_
        refine aw_goto (tgt := 12) dX1_willBeSeen_82 (by decide) ?_
        exact AW.bud (aw_locals (by exact ⟨rfl, rfl, by rw [show tSumR _ (k + 1) = tSumR _ k + _ from rfl, if_neg (fun q => h1 q.1)]; rfl, rfl, trivial⟩) (ih (k + 1) _ μ3 (by omega) hkp3 hi3)) (by omega) (by omega)
      · first | refine aw_aload_n (i := 1) (q := 61) dX1_willBeSeen_60 rfl rfl rfl ?_ | refine aw_aloadN_n (i := 1) (q := 61) dX1_willBeSeen_60 rfl rfl rfl ?_ | refine aw_aloadQ_n (i := 1) (q := 61) dX1_willBeSeen_60 rfl rfl rfl ?_
        first | refine aw_aload (q := 63) dX1_willBeSeen_61 rfl rfl ?_ | refine aw_aloadN (q := 63) dX1_willBeSeen_61 rfl rfl ?_ | refine aw_aloadQ (q := 63) dX1_willBeSeen_61 rfl rfl ?_
        first | refine aw_aload (q := 65) dX1_willBeSeen_63 rfl rfl ?_ | refine aw_aloadN (q := 65) dX1_willBeSeen_63 rfl rfl ?_ | refine aw_aloadQ (q := 65) dX1_willBeSeen_63 rfl rfl ?_
        refine aw_callV (q := 68) dX1_willBeSeen_65 (C_Pr_isFor hpr hob hsh htm) cv_X1_158_7 (by assumption) rfl rfl (by decide) (by decide) (by first | exact Nat.le_of_ble_eq_true rfl | simp [zcat_rf, Value.category]) rfl (zpk ?_)
        refine aw_if_eq (tgt := 79) (q := 71) dX1_willBeSeen_68 (by decide) rfl (fun h2 => ?_) (fun h2 => ?_)
        · refine aw_iconst (v := 0) (q := 80) dX1_willBeSeen_79 rfl rfl ?_
          refine aw_iadd (q := 81) dX1_willBeSeen_80 rfl ?_
          refine aw_istore_n (i := 2) (q := 82) dX1_willBeSeen_81 rfl (by decide) rfl ?_
          refine aw_goto (tgt := 12) dX1_willBeSeen_82 (by decide) ?_
          exact AW.bud (aw_locals (by exact ⟨rfl, rfl, by rw [show tSumR _ (k + 1) = tSumR _ k + _ from rfl, if_neg (fun q => absurd h2 (by rw [zB_t q.2]; decide))]; rfl, rfl, trivial⟩) (ih (k + 1) _ μ3 (by omega) hkp3 hi3)) (by omega) (by omega)
        · first | refine aw_aload (q := 73) dX1_willBeSeen_71 rfl rfl ?_ | refine aw_aloadN (q := 73) dX1_willBeSeen_71 rfl rfl ?_ | refine aw_aloadQ (q := 73) dX1_willBeSeen_71 rfl rfl ?_
          refine aw_getfield (q := 76) dX1_willBeSeen_73 gf_X1_162_6 (by assumption) rfl rfl ?_
          refine aw_goto (tgt := 80) dX1_willBeSeen_76 (by decide) ?_
          refine aw_iadd (q := 81) dX1_willBeSeen_80 rfl ?_
          refine aw_istore_n (i := 2) (q := 82) dX1_willBeSeen_81 rfl (by decide) rfl ?_
          refine aw_goto (tgt := 12) dX1_willBeSeen_82 (by decide) ?_
          exact AW.bud (aw_locals (by exact ⟨rfl, rfl, by rw [show tSumR _ (k + 1) = tSumR _ k + _ from rfl, if_pos ⟨h1, Classical.byContradiction (fun n => h2 (zB_f n))⟩]; rfl, rfl, trivial⟩) (ih (k + 1) _ μ3 (by omega) hkp3 hi3)) (by omega) (by omega)
  exact AW.bud (aw_locals (by exact ⟨rfl, rfl, rfl, rfl, trivial⟩) (loop (pcn P 10) 0 (-1) μ1 (by omega) hk1 hit1)) (by omega) (by omega)
end ZSU
