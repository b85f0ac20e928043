/-! NODES: new ones; putTreeVal -/
set_option maxRecDepth 100000
section ZNN
variable {G : zG} {μ : zM}
theorem C_Nd_init {a k b : Nat} {r : Option Nat} {h : Int32} {t : zT} (ha : μ a = some (t, .inr (13, [.int 0, .null, .null, .null]))) (ht : t ≠ zC) : Meets G 2 MJ18_init [.ref a, .int h, .ref k, .ref b, va_rf r] μ (fun v μ' => v = none ∧ μ' = updM μ a (t, .inr (13, [.int h, .ref k, .ref b, va_rf r]))) 0 0 := by
  refine meets_of (by decide +kernel) (by cases r <;> exact Nat.le_of_ble_eq_true rfl) ?_
  first | refine aw_aload_n (i := 0) (q := 1) dJ18_init_0 rfl rfl rfl ?_ | refine aw_aloadN_n (i := 0) (q := 1) dJ18_init_0 rfl rfl rfl ?_ | refine aw_aloadQ_n (i := 0) (q := 1) dJ18_init_0 rfl rfl rfl ?_
  refine aw_objInit (q := 4) dJ18_init_1 oi_J18_1 (by decide) (by first | exact Nat.le_of_ble_eq_true rfl | simp [zcat_rf, Value.category]) rfl ?_
  first | refine aw_aload_n (i := 0) (q := 5) dJ18_init_4 rfl rfl rfl ?_ | refine aw_aloadN_n (i := 0) (q := 5) dJ18_init_4 rfl rfl rfl ?_ | refine aw_aloadQ_n (i := 0) (q := 5) dJ18_init_4 rfl rfl rfl ?_
  refine aw_iload_n (i := 1) (q := 6) dJ18_init_5 rfl rfl rfl ?_
  first | refine aw_putF (q := 9) dJ18_init_6 pf_J18_7_13 rfl ha (by first | assumption | simp) (by first | rfl | exact znar_rf _ _ | exact zB_nar _) (by first | rfl | exact zfit_rf _ _ | exact zB_fit _) (Nat.le_of_ble_eq_true rfl) rfl (fun μ1 hg_μ1 => ?_) | refine aw_putF (q := 9) dJ18_init_6 pf_J18_7_15 rfl ha (by first | assumption | simp) (by first | rfl | exact znar_rf _ _ | exact zB_nar _) (by first | rfl | exact zfit_rf _ _ | exact zB_fit _) (Nat.le_of_ble_eq_true rfl) rfl (fun μ1 hg_μ1 => ?_)
  have ha : μ1 _ = some _ := hg_μ1 ▸ updM_eq _ _ _
  simp only [List.set] at ha hg_μ1
  first | refine aw_aload_n (i := 0) (q := 10) dJ18_init_9 rfl rfl rfl ?_ | refine aw_aloadN_n (i := 0) (q := 10) dJ18_init_9 rfl rfl rfl ?_ | refine aw_aloadQ_n (i := 0) (q := 10) dJ18_init_9 rfl rfl rfl ?_
  first | refine aw_aload_n (i := 2) (q := 11) dJ18_init_10 rfl rfl rfl ?_ | refine aw_aloadN_n (i := 2) (q := 11) dJ18_init_10 rfl rfl rfl ?_ | refine aw_aloadQ_n (i := 2) (q := 11) dJ18_init_10 rfl rfl rfl ?_
  first | refine aw_putF (q := 14) dJ18_init_11 pf_J18_13_13 rfl ha (by first | assumption | simp) (by first | rfl | exact znar_rf _ _ | exact zB_nar _) (by first | rfl | exact zfit_rf _ _ | exact zB_fit _) (Nat.le_of_ble_eq_true rfl) rfl (fun μ2 hg_μ2 => ?_) | refine aw_putF (q := 14) dJ18_init_11 pf_J18_13_15 rfl ha (by first | assumption | simp) (by first | rfl | exact znar_rf _ _ | exact zB_nar _) (by first | rfl | exact zfit_rf _ _ | exact zB_fit _) (Nat.le_of_ble_eq_true rfl) rfl (fun μ2 hg_μ2 => ?_)
  have ha : μ2 _ = some _ := hg_μ2 ▸ updM_eq _ _ _
  simp only [List.set] at ha hg_μ2
  first | refine aw_aload_n (i := 0) (q := 15) dJ18_init_14 rfl rfl rfl ?_ | refine aw_aloadN_n (i := 0) (q := 15) dJ18_init_14 rfl rfl rfl ?_ | refine aw_aloadQ_n (i := 0) (q := 15) dJ18_init_14 rfl rfl rfl ?_
  first | refine aw_aload_n (i := 3) (q := 16) dJ18_init_15 rfl rfl rfl ?_ | refine aw_aloadN_n (i := 3) (q := 16) dJ18_init_15 rfl rfl rfl ?_ | refine aw_aloadQ_n (i := 3) (q := 16) dJ18_init_15 rfl rfl rfl ?_
  first | refine aw_putfield (q := 19) dJ18_init_16 gf_J18_17_13 ha (by first | assumption | simp) (by first | rfl | exact znar_rf _ _ | exact zB_nar _) (by first | rfl | exact zfit_rf _ _ | exact zB_fit _) (Nat.le_of_ble_eq_true rfl) rfl (fun μ3 hg_μ3 => ?_) | refine aw_putfield (q := 19) dJ18_init_16 gf_J18_17_15 ha (by first | assumption | simp) (by first | rfl | exact znar_rf _ _ | exact zB_nar _) (by first | rfl | exact zfit_rf _ _ | exact zB_fit _) (Nat.le_of_ble_eq_true rfl) rfl (fun μ3 hg_μ3 => ?_)
  have ha : μ3 _ = some _ := hg_μ3 ▸ updM_eq _ _ _
  simp only [List.set] at ha hg_μ3
  first | refine aw_aload_n (i := 0) (q := 20) dJ18_init_19 rfl rfl rfl ?_ | refine aw_aloadN_n (i := 0) (q := 20) dJ18_init_19 rfl rfl rfl ?_ | refine aw_aloadQ_n (i := 0) (q := 20) dJ18_init_19 rfl rfl rfl ?_
  first | refine aw_aload (q := 22) dJ18_init_20 rfl rfl ?_ | refine aw_aloadN (q := 22) dJ18_init_20 rfl rfl ?_ | refine aw_aloadQ (q := 22) dJ18_init_20 rfl rfl ?_
  first | refine aw_putfield (q := 25) dJ18_init_22 gf_J18_20_13 ha (by first | assumption | simp) (by first | rfl | exact znar_rf _ _ | exact zB_nar _) (by first | rfl | exact zfit_rf _ _ | exact zB_fit _) (Nat.le_of_ble_eq_true rfl) rfl (fun μ4 hg_μ4 => ?_) | refine aw_putfield (q := 25) dJ18_init_22 gf_J18_20_15 ha (by first | assumption | simp) (by first | rfl | exact znar_rf _ _ | exact zB_nar _) (by first | rfl | exact zfit_rf _ _ | exact zB_fit _) (Nat.le_of_ble_eq_true rfl) rfl (fun μ4 hg_μ4 => ?_)
  have ha : μ4 _ = some _ := hg_μ4 ▸ updM_eq _ _ _
  simp only [List.set] at ha hg_μ4
  exact aw_return dJ18_init_25 rfl (by refine ⟨rfl, ?_⟩; rw [hg_μ4, hg_μ3, hg_μ2, hg_μ1, updM_twice, updM_twice, updM_twice])
/-- .. of a tree node -/
theorem C_NdT_init {a k b : Nat} {r : Option Nat} {h : Int32} {t : zT} {x0 x1 x6 x7 x8 x9 x10 : Value} (ha : μ a = some (t, .inr (15, [x0, x1, .int 0, .null, .null, .null, x6, x7, x8, x9, x10]))) (ht : t ≠ zC) : Meets G 2 MJ18_init [.ref a, .int h, .ref k, .ref b, va_rf r] μ (fun v μ' => v = none ∧ μ' = updM μ a (t, .inr (15, [x0, x1, .int h, .ref k, .ref b, va_rf r, x6, x7, x8, x9, x10]))) 0 0 := by
  refine meets_of (by decide +kernel) (by cases r <;> exact Nat.le_of_ble_eq_true rfl) ?_
  first | refine aw_aload_n (i := 0) (q := 1) dJ18_init_0 rfl rfl rfl ?_ | refine aw_aloadN_n (i := 0) (q := 1) dJ18_init_0 rfl rfl rfl ?_ | refine aw_aloadQ_n (i := 0) (q := 1) dJ18_init_0 rfl rfl rfl ?_
  refine aw_objInit (q := 4) dJ18_init_1 oi_J18_1 (by decide) (by first | exact Nat.le_of_ble_eq_true rfl | simp [zcat_rf, Value.category]) rfl ?_
  first | refine aw_aload_n (i := 0) (q := 5) dJ18_init_4 rfl rfl rfl ?_ | refine aw_aloadN_n (i := 0) (q := 5) dJ18_init_4 rfl rfl rfl ?_ | refine aw_aloadQ_n (i := 0) (q := 5) dJ18_init_4 rfl rfl rfl ?_
  refine aw_iload_n (i := 1) (q := 6) dJ18_init_5 rfl rfl rfl ?_
  first | refine aw_putF (q := 9) dJ18_init_6 pf_J18_7_13 rfl ha (by first | assumption | simp) (by first | rfl | exact znar_rf _ _ | exact zB_nar _) (by first | rfl | exact zfit_rf _ _ | exact zB_fit _) (Nat.le_of_ble_eq_true rfl) rfl (fun μ1 hg_μ1 => ?_) | refine aw_putF (q := 9) dJ18_init_6 pf_J18_7_15 rfl ha (by first | assumption | simp) (by first | rfl | exact znar_rf _ _ | exact zB_nar _) (by first | rfl | exact zfit_rf _ _ | exact zB_fit _) (Nat.le_of_ble_eq_true rfl) rfl (fun μ1 hg_μ1 => ?_)
  have ha : μ1 _ = some _ := hg_μ1 ▸ updM_eq _ _ _
  simp only [List.set] at ha hg_μ1
  first | refine aw_aload_n (i := 0) (q := 10) dJ18_init_9 rfl rfl rfl ?_ | refine aw_aloadN_n (i := 0) (q := 10) dJ18_init_9 rfl rfl rfl ?_ | refine aw_aloadQ_n (i := 0) (q := 10) dJ18_init_9 rfl rfl rfl ?_
  first | refine aw_aload_n (i := 2) (q := 11) dJ18_init_10 rfl rfl rfl ?_ | refine aw_aloadN_n (i := 2) (q := 11) dJ18_init_10 rfl rfl rfl ?_ | refine aw_aloadQ_n (i := 2) (q := 11) dJ18_init_10 rfl rfl rfl ?_
  first | refine aw_putF (q := 14) dJ18_init_11 pf_J18_13_13 rfl ha (by first | assumption | simp) (by first | rfl | exact znar_rf _ _ | exact zB_nar _) (by first | rfl | exact zfit_rf _ _ | exact zB_fit _) (Nat.le_of_ble_eq_true rfl) rfl (fun μ2 hg_μ2 => ?_) | refine aw_putF (q := 14) dJ18_init_11 pf_J18_13_15 rfl ha (by first | assumption | simp) (by first | rfl | exact znar_rf _ _ | exact zB_nar _) (by first | rfl | exact zfit_rf _ _ | exact zB_fit _) (Nat.le_of_ble_eq_true rfl) rfl (fun μ2 hg_μ2 => ?_)
  have ha : μ2 _ = some _ := hg_μ2 ▸ updM_eq _ _ _
  simp only [List.set] at ha hg_μ2
  first | refine aw_aload_n (i := 0) (q := 15) dJ18_init_14 rfl rfl rfl ?_ | refine aw_aloadN_n (i := 0) (q := 15) dJ18_init_14 rfl rfl rfl ?_ | refine aw_aloadQ_n (i := 0) (q := 15) dJ18_init_14 rfl rfl rfl ?_
  first | refine aw_aload_n (i := 3) (q := 16) dJ18_init_15 rfl rfl rfl ?_ | refine aw_aloadN_n (i := 3) (q := 16) dJ18_init_15 rfl rfl rfl ?_ | refine aw_aloadQ_n (i := 3) (q := 16) dJ18_init_15 rfl rfl rfl ?_
  first | refine aw_putfield (q := 19) dJ18_init_16 gf_J18_17_13 ha (by first | assumption | simp) (by first | rfl | exact znar_rf _ _ | exact zB_nar _) (by first | rfl | exact zfit_rf _ _ | exact zB_fit _) (Nat.le_of_ble_eq_true rfl) rfl (fun μ3 hg_μ3 => ?_) | refine aw_putfield (q := 19) dJ18_init_16 gf_J18_17_15 ha (by first | assumption | simp) (by first | rfl | exact znar_rf _ _ | exact zB_nar _) (by first | rfl | exact zfit_rf _ _ | exact zB_fit _) (Nat.le_of_ble_eq_true rfl) rfl (fun μ3 hg_μ3 => ?_)
  have ha : μ3 _ = some _ := hg_μ3 ▸ updM_eq _ _ _
  simp only [List.set] at ha hg_μ3
  first | refine aw_aload_n (i := 0) (q := 20) dJ18_init_19 rfl rfl rfl ?_ | refine aw_aloadN_n (i := 0) (q := 20) dJ18_init_19 rfl rfl rfl ?_ | refine aw_aloadQ_n (i := 0) (q := 20) dJ18_init_19 rfl rfl rfl ?_
  first | refine aw_aload (q := 22) dJ18_init_20 rfl rfl ?_ | refine aw_aloadN (q := 22) dJ18_init_20 rfl rfl ?_ | refine aw_aloadQ (q := 22) dJ18_init_20 rfl rfl ?_
  first | refine aw_putfield (q := 25) dJ18_init_22 gf_J18_20_13 ha (by first | assumption | simp) (by first | rfl | exact znar_rf _ _ | exact zB_nar _) (by first | rfl | exact zfit_rf _ _ | exact zB_fit _) (Nat.le_of_ble_eq_true rfl) rfl (fun μ4 hg_μ4 => ?_) | refine aw_putfield (q := 25) dJ18_init_22 gf_J18_20_15 ha (by first | assumption | simp) (by first | rfl | exact znar_rf _ _ | exact zB_nar _) (by first | rfl | exact zfit_rf _ _ | exact zB_fit _) (Nat.le_of_ble_eq_true rfl) rfl (fun μ4 hg_μ4 => ?_)
  have ha : μ4 _ = some _ := hg_μ4 ▸ updM_eq _ _ _
  simp only [List.set] at ha hg_μ4
  exact aw_return dJ18_init_25 rfl (by refine ⟨rfl, ?_⟩; rw [hg_μ4, hg_μ3, hg_μ2, hg_μ1, updM_twice, updM_twice, updM_twice])
theorem C_Ent_init {a k b : Nat} {r : Option Nat} {h : Int32} {t : zT} {x0 x1 x6 x7 x8 x9 x10 : Value} (ha : μ a = some (t, .inr (15, [x0, x1, .int 0, .null, .null, .null, x6, x7, x8, x9, x10]))) (ht : t ≠ zC) : Meets G 3 MJ22_init [.ref a, .int h, .ref k, .ref b, va_rf r] μ (fun v μ' => v = none ∧ μ' = updM μ a (t, .inr (15, [x0, x1, .int h, .ref k, .ref b, va_rf r, x6, x7, x8, x9, x10]))) 0 0 := by
  refine meets_of (by decide +kernel) (by cases r <;> exact Nat.le_of_ble_eq_true rfl) ?_
  first | refine aw_aload_n (i := 0) (q := 1) dJ22_init_0 rfl rfl rfl ?_ | refine aw_aloadN_n (i := 0) (q := 1) dJ22_init_0 rfl rfl rfl ?_ | refine aw_aloadQ_n (i := 0) (q := 1) dJ22_init_0 rfl rfl rfl ?_
  refine aw_iload_n (i := 1) (q := 2) dJ22_init_1 rfl rfl rfl ?_
  first | refine aw_aload_n (i := 2) (q := 3) dJ22_init_2 rfl rfl rfl ?_ | refine aw_aloadN_n (i := 2) (q := 3) dJ22_init_2 rfl rfl rfl ?_ | refine aw_aloadQ_n (i := 2) (q := 3) dJ22_init_2 rfl rfl rfl ?_
  first | refine aw_aload_n (i := 3) (q := 4) dJ22_init_3 rfl rfl rfl ?_ | refine aw_aloadN_n (i := 3) (q := 4) dJ22_init_3 rfl rfl rfl ?_ | refine aw_aloadQ_n (i := 3) (q := 4) dJ22_init_3 rfl rfl rfl ?_
  first | refine aw_aload (q := 6) dJ22_init_4 rfl rfl ?_ | refine aw_aloadN (q := 6) dJ22_init_4 rfl rfl ?_ | refine aw_aloadQ (q := 6) dJ22_init_4 rfl rfl ?_
  refine aw_callI (q := 9) dJ22_init_6 (C_NdT_init ha ht) ci_J22_1 rfl rfl (by decide) (by decide) (by first | exact Nat.le_of_ble_eq_true rfl | simp [zcat_rf, Value.category]) rfl (fun v6 μ1 hp => ?_)
  obtain ⟨rfl, hg⟩ := hp
  exact aw_return dJ22_init_9 rfl (⟨rfl, hg⟩)
theorem C_Tn_init {a k b : Nat} {r : Option Nat} {h : Int32} {t : zT} {x0 x1 x6 x7 x8 x9 x10 : Value} (ha : μ a = some (t, .inr (15, [x0, x1, .int 0, .null, .null, .null, x6, x7, x8, x9, x10]))) (ht : t ≠ zC) : Meets G 4 MJ23_init [.ref a, .int h, .ref k, .ref b, va_rf r] μ (fun v μ' => v = none ∧ μ' = updM μ a (t, .inr (15, [x0, x1, .int h, .ref k, .ref b, va_rf r, x6, x7, x8, x9, x10]))) 0 0 := by
  refine meets_of (by decide +kernel) (by cases r <;> exact Nat.le_of_ble_eq_true rfl) ?_
  first | refine aw_aload_n (i := 0) (q := 1) dJ23_init_0 rfl rfl rfl ?_ | refine aw_aloadN_n (i := 0) (q := 1) dJ23_init_0 rfl rfl rfl ?_ | refine aw_aloadQ_n (i := 0) (q := 1) dJ23_init_0 rfl rfl rfl ?_
  refine aw_iload_n (i := 1) (q := 2) dJ23_init_1 rfl rfl rfl ?_
  first | refine aw_aload_n (i := 2) (q := 3) dJ23_init_2 rfl rfl rfl ?_ | refine aw_aloadN_n (i := 2) (q := 3) dJ23_init_2 rfl rfl rfl ?_ | refine aw_aloadQ_n (i := 2) (q := 3) dJ23_init_2 rfl rfl rfl ?_
  first | refine aw_aload_n (i := 3) (q := 4) dJ23_init_3 rfl rfl rfl ?_ | refine aw_aloadN_n (i := 3) (q := 4) dJ23_init_3 rfl rfl rfl ?_ | refine aw_aloadQ_n (i := 3) (q := 4) dJ23_init_3 rfl rfl rfl ?_
  first | refine aw_aload (q := 6) dJ23_init_4 rfl rfl ?_ | refine aw_aloadN (q := 6) dJ23_init_4 rfl rfl ?_ | refine aw_aloadQ (q := 6) dJ23_init_4 rfl rfl ?_
  refine aw_callI (q := 9) dJ23_init_6 (C_Ent_init ha ht) ci_J23_3 rfl rfl (by decide) (by decide) (by first | exact Nat.le_of_ble_eq_true rfl | simp [zcat_rf, Value.category]) rfl (fun v6 μ1 hp => ?_)
  obtain ⟨rfl, hg⟩ := hp
  exact aw_return dJ23_init_9 rfl (⟨rfl, hg⟩)
theorem C_newNode {m h k b : Nat} {r : Option Nat} {u : zT} (hu : u ≠ zC) : Meets G 3 MJ4_newNode [.ref m, .int (nI h), .ref k, .ref b, va_rf r] μ (fun v μ' => ∃ c, v = some (.ref c) ∧ μ c = none ∧ μ' = updM μ c (u, oNd h k b r)) 1 4 := by
  refine meets_of (by decide +kernel) (by cases r <;> exact Nat.le_of_ble_eq_true rfl) ?_
  refine AW.sub (bc' := 1) (bs' := 4) (by omega) (by omega) ?_
  refine aw_new (q := 3) dJ4_newNode_0 nw_J4_163 u (by first | assumption | simp) rfl (fun c μ1 hn_c hg_μ1 => ?_)
  have h_c : μ1 c = some _ := hg_μ1 ▸ updM_eq _ _ _
  refine aw_dup (q := 4) dJ4_newNode_3 (by first | rfl | exact zcat_rf _) rfl ?_
  refine aw_iload_n (i := 1) (q := 5) dJ4_newNode_4 rfl rfl rfl ?_
  first | refine aw_aload_n (i := 2) (q := 6) dJ4_newNode_5 rfl rfl rfl ?_ | refine aw_aloadN_n (i := 2) (q := 6) dJ4_newNode_5 rfl rfl rfl ?_ | refine aw_aloadQ_n (i := 2) (q := 6) dJ4_newNode_5 rfl rfl rfl ?_
  first | refine aw_aload_n (i := 3) (q := 7) dJ4_newNode_6 rfl rfl rfl ?_ | refine aw_aloadN_n (i := 3) (q := 7) dJ4_newNode_6 rfl rfl rfl ?_ | refine aw_aloadQ_n (i := 3) (q := 7) dJ4_newNode_6 rfl rfl rfl ?_
  first | refine aw_aload (q := 9) dJ4_newNode_7 rfl rfl ?_ | refine aw_aloadN (q := 9) dJ4_newNode_7 rfl rfl ?_ | refine aw_aloadQ (q := 9) dJ4_newNode_7 rfl rfl ?_
  refine aw_callI (q := 12) dJ4_newNode_9 (C_Nd_init h_c hu) ci_J4_375 rfl rfl (by decide) (by decide) (by first | exact Nat.le_of_ble_eq_true rfl | simp [zcat_rf, Value.category]) rfl (fun v9 μ2 hp => ?_)
  obtain ⟨rfl, hg⟩ := hp
  exact aw_areturnR dJ4_newNode_12 rfl (by first | exact Or.inl ⟨_, rfl⟩ | exact Or.inr ⟨_, rfl⟩) (by exact ⟨c, rfl, hn_c, by rw [hg, hg_μ1, updM_twice]⟩)
theorem C_newTreeNode {m h k b : Nat} {r : Option Nat} {u : zT} (hu : u ≠ zC) : Meets G 5 MJ4_newTreeNode [.ref m, .int (nI h), .ref k, .ref b, va_rf r] μ (fun v μ' => ∃ c, v = some (.ref c) ∧ μ c = none ∧ μ' = updM μ c (u, oTn h k b r none none none none 0)) 1 11 := by
  refine meets_of (by decide +kernel) (by cases r <;> exact Nat.le_of_ble_eq_true rfl) ?_
  refine AW.sub (bc' := 1) (bs' := 11) (by omega) (by omega) ?_
  refine aw_new (q := 3) dJ4_newTreeNode_0 nw_J4_180 u (by first | assumption | simp) rfl (fun c μ1 hn_c hg_μ1 => ?_)
  have h_c : μ1 c = some _ := hg_μ1 ▸ updM_eq _ _ _
  refine aw_dup (q := 4) dJ4_newTreeNode_3 (by first | rfl | exact zcat_rf _) rfl ?_
  refine aw_iload_n (i := 1) (q := 5) dJ4_newTreeNode_4 rfl rfl rfl ?_
  first | refine aw_aload_n (i := 2) (q := 6) dJ4_newTreeNode_5 rfl rfl rfl ?_ | refine aw_aloadN_n (i := 2) (q := 6) dJ4_newTreeNode_5 rfl rfl rfl ?_ | refine aw_aloadQ_n (i := 2) (q := 6) dJ4_newTreeNode_5 rfl rfl rfl ?_
  first | refine aw_aload_n (i := 3) (q := 7) dJ4_newTreeNode_6 rfl rfl rfl ?_ | refine aw_aloadN_n (i := 3) (q := 7) dJ4_newTreeNode_6 rfl rfl rfl ?_ | refine aw_aloadQ_n (i := 3) (q := 7) dJ4_newTreeNode_6 rfl rfl rfl ?_
  first | refine aw_aload (q := 9) dJ4_newTreeNode_7 rfl rfl ?_ | refine aw_aloadN (q := 9) dJ4_newTreeNode_7 rfl rfl ?_ | refine aw_aloadQ (q := 9) dJ4_newTreeNode_7 rfl rfl ?_
  refine aw_callI (q := 12) dJ4_newTreeNode_9 (C_Tn_init h_c hu) ci_J4_378 rfl rfl (by decide) (by decide) (by first | exact Nat.le_of_ble_eq_true rfl | simp [zcat_rf, Value.category]) rfl (fun v9 μ2 hp => ?_)
  obtain ⟨rfl, hg⟩ := hp
  exact aw_areturnR dJ4_newTreeNode_12 rfl (by first | exact Or.inl ⟨_, rfl⟩ | exact Or.inr ⟨_, rfl⟩) (by exact ⟨c, rfl, hn_c, by rw [hg, hg_μ1, updM_twice]; rfl⟩)
theorem C_replTreeNode {m p h k b : Nat} {r0 r : Option Nat} {u t : zT} (hp : μ p = some (t, oNd h k b r0)) (hu : u ≠ zC) : Meets G 5 MJ4_replacementTreeNode [.ref m, .ref p, va_rf r] μ (fun v μ' => ∃ c, v = some (.ref c) ∧ μ c = none ∧ μ' = updM μ c (u, oTn h k b r none none none none 0)) 1 11 := by
  refine meets_of (by decide +kernel) (by cases r <;> exact Nat.le_of_ble_eq_true rfl) ?_
  refine AW.sub (bc' := 1) (bs' := 11) (by omega) (by omega) ?_
  refine aw_new (q := 3) dJ4_replacementTreeNode_0 nw_J4_180 u (by first | assumption | simp) rfl (fun c μ1 hn_c hg_μ1 => ?_)
  have hp : μ1 _ = some _ := hg_μ1 ▸ (updM_ne (zneN hp hn_c)).trans hp
  have h_c : μ1 c = some _ := hg_μ1 ▸ updM_eq _ _ _
  refine aw_dup (q := 4) dJ4_replacementTreeNode_3 (by first | rfl | exact zcat_rf _) rfl ?_
  first | refine aw_aload_n (i := 1) (q := 5) dJ4_replacementTreeNode_4 rfl rfl rfl ?_ | refine aw_aloadN_n (i := 1) (q := 5) dJ4_replacementTreeNode_4 rfl rfl rfl ?_ | refine aw_aloadQ_n (i := 1) (q := 5) dJ4_replacementTreeNode_4 rfl rfl rfl ?_
  first | refine aw_getfield (q := 8) dJ4_replacementTreeNode_5 gf_J4_168_13 (by assumption) rfl rfl ?_ | refine aw_getfield (q := 8) dJ4_replacementTreeNode_5 gf_J4_168_15 (by assumption) rfl rfl ?_ | refine aw_nd (i := 0) (q := 8) dJ4_replacementTreeNode_5 gf_J4_168_13 gf_J4_168_15 (by assumption) rfl rfl ?_
  first | refine aw_aload_n (i := 1) (q := 9) dJ4_replacementTreeNode_8 rfl rfl rfl ?_ | refine aw_aloadN_n (i := 1) (q := 9) dJ4_replacementTreeNode_8 rfl rfl rfl ?_ | refine aw_aloadQ_n (i := 1) (q := 9) dJ4_replacementTreeNode_8 rfl rfl rfl ?_
  first | refine aw_getfield (q := 12) dJ4_replacementTreeNode_9 gf_J4_170_13 (by assumption) rfl rfl ?_ | refine aw_getfield (q := 12) dJ4_replacementTreeNode_9 gf_J4_170_15 (by assumption) rfl rfl ?_ | refine aw_nd (i := 1) (q := 12) dJ4_replacementTreeNode_9 gf_J4_170_13 gf_J4_170_15 (by assumption) rfl rfl ?_
  first | refine aw_aload_n (i := 1) (q := 13) dJ4_replacementTreeNode_12 rfl rfl rfl ?_ | refine aw_aloadN_n (i := 1) (q := 13) dJ4_replacementTreeNode_12 rfl rfl rfl ?_ | refine aw_aloadQ_n (i := 1) (q := 13) dJ4_replacementTreeNode_12 rfl rfl rfl ?_
  first | refine aw_getfield (q := 16) dJ4_replacementTreeNode_13 gf_J4_162_13 (by assumption) rfl rfl ?_ | refine aw_getfield (q := 16) dJ4_replacementTreeNode_13 gf_J4_162_15 (by assumption) rfl rfl ?_ | refine aw_nd (i := 2) (q := 16) dJ4_replacementTreeNode_13 gf_J4_162_13 gf_J4_162_15 (by assumption) rfl rfl ?_
  first | refine aw_aload_n (i := 2) (q := 17) dJ4_replacementTreeNode_16 rfl rfl rfl ?_ | refine aw_aloadN_n (i := 2) (q := 17) dJ4_replacementTreeNode_16 rfl rfl rfl ?_ | refine aw_aloadQ_n (i := 2) (q := 17) dJ4_replacementTreeNode_16 rfl rfl rfl ?_
  refine aw_callI (q := 20) dJ4_replacementTreeNode_17 (C_Tn_init h_c hu) ci_J4_378 rfl rfl (by decide) (by decide) (by first | exact Nat.le_of_ble_eq_true rfl | simp [zcat_rf, Value.category]) rfl (fun v17 μ2 hp => ?_)
  obtain ⟨rfl, hg⟩ := hp
  exact aw_areturnR dJ4_replacementTreeNode_20 rfl (by first | exact Or.inl ⟨_, rfl⟩ | exact Or.inr ⟨_, rfl⟩) (by exact ⟨c, rfl, hn_c, by rw [hg, hg_μ1, updM_twice]; rfl⟩)
theorem C_replNode {m p h k b : Nat} {r0 pa le ri pv r : Option Nat} {rd : Int32} {u t : zT} (hp : μ p = some (t, oTn h k b r0 pa le ri pv rd)) (hu : u ≠ zC) : Meets G 3 MJ4_replacementNode [.ref m, .ref p, va_rf r] μ (fun v μ' => ∃ c, v = some (.ref c) ∧ μ c = none ∧ μ' = updM μ c (u, oNd h k b r)) 1 4 := by
  refine meets_of (by decide +kernel) (by cases r <;> exact Nat.le_of_ble_eq_true rfl) ?_
  refine AW.sub (bc' := 1) (bs' := 4) (by omega) (by omega) ?_
  refine aw_new (q := 3) dJ4_replacementNode_0 nw_J4_163 u (by first | assumption | simp) rfl (fun c μ1 hn_c hg_μ1 => ?_)
  have hp : μ1 _ = some _ := hg_μ1 ▸ (updM_ne (zneN hp hn_c)).trans hp
  have h_c : μ1 c = some _ := hg_μ1 ▸ updM_eq _ _ _
  refine aw_dup (q := 4) dJ4_replacementNode_3 (by first | rfl | exact zcat_rf _) rfl ?_
  first | refine aw_aload_n (i := 1) (q := 5) dJ4_replacementNode_4 rfl rfl rfl ?_ | refine aw_aloadN_n (i := 1) (q := 5) dJ4_replacementNode_4 rfl rfl rfl ?_ | refine aw_aloadQ_n (i := 1) (q := 5) dJ4_replacementNode_4 rfl rfl rfl ?_
  first | refine aw_getfield (q := 8) dJ4_replacementNode_5 gf_J4_168_13 (by assumption) rfl rfl ?_ | refine aw_getfield (q := 8) dJ4_replacementNode_5 gf_J4_168_15 (by assumption) rfl rfl ?_ | refine aw_nd (i := 0) (q := 8) dJ4_replacementNode_5 gf_J4_168_13 gf_J4_168_15 (by assumption) rfl rfl ?_
  first | refine aw_aload_n (i := 1) (q := 9) dJ4_replacementNode_8 rfl rfl rfl ?_ | refine aw_aloadN_n (i := 1) (q := 9) dJ4_replacementNode_8 rfl rfl rfl ?_ | refine aw_aloadQ_n (i := 1) (q := 9) dJ4_replacementNode_8 rfl rfl rfl ?_
  first | refine aw_getfield (q := 12) dJ4_replacementNode_9 gf_J4_170_13 (by assumption) rfl rfl ?_ | refine aw_getfield (q := 12) dJ4_replacementNode_9 gf_J4_170_15 (by assumption) rfl rfl ?_ | refine aw_nd (i := 1) (q := 12) dJ4_replacementNode_9 gf_J4_170_13 gf_J4_170_15 (by assumption) rfl rfl ?_
  first | refine aw_aload_n (i := 1) (q := 13) dJ4_replacementNode_12 rfl rfl rfl ?_ | refine aw_aloadN_n (i := 1) (q := 13) dJ4_replacementNode_12 rfl rfl rfl ?_ | refine aw_aloadQ_n (i := 1) (q := 13) dJ4_replacementNode_12 rfl rfl rfl ?_
  first | refine aw_getfield (q := 16) dJ4_replacementNode_13 gf_J4_162_13 (by assumption) rfl rfl ?_ | refine aw_getfield (q := 16) dJ4_replacementNode_13 gf_J4_162_15 (by assumption) rfl rfl ?_ | refine aw_nd (i := 2) (q := 16) dJ4_replacementNode_13 gf_J4_162_13 gf_J4_162_15 (by assumption) rfl rfl ?_
  first | refine aw_aload_n (i := 2) (q := 17) dJ4_replacementNode_16 rfl rfl rfl ?_ | refine aw_aloadN_n (i := 2) (q := 17) dJ4_replacementNode_16 rfl rfl rfl ?_ | refine aw_aloadQ_n (i := 2) (q := 17) dJ4_replacementNode_16 rfl rfl rfl ?_
  refine aw_callI (q := 20) dJ4_replacementNode_17 (C_Nd_init h_c hu) ci_J4_375 rfl rfl (by decide) (by decide) (by first | exact Nat.le_of_ble_eq_true rfl | simp [zcat_rf, Value.category]) rfl (fun v17 μ2 hp => ?_)
  obtain ⟨rfl, hg⟩ := hp
  exact aw_areturnR dJ4_replacementNode_20 rfl (by first | exact Or.inl ⟨_, rfl⟩ | exact Or.inr ⟨_, rfl⟩) (by exact ⟨c, rfl, hn_c, by rw [hg, hg_μ1, updM_twice]⟩)
end ZNN
section ZPT
variable {G : zG} {μ μ' : zM} {R o : Nat} {ν ky vl : Nat → Nat} {nx pa le ri pv : Nat → Option Nat} {rd : Nat → Int32} {B T : Nat → Prop} {a b : Nat → Int}
theorem zOmap {r : Option Nat} {ν ν' : Nat → Nat} (h : ∀ x, r = some x → ν' x = ν x) : r.map ν' = r.map ν := by
  cases r with
  | none => rfl
  | some x => exact congrArg some (h x rfl)
/-- all links lead to B -/
def zLks (nx pa le ri pv : Nat → Option Nat) (B : Nat → Prop) : Prop := ∀ x, B x → (∀ y, nx x = some y → B y) ∧ (∀ y, pa x = some y → B y) ∧ (∀ y, le x = some y → B y) ∧ (∀ y, ri x = some y → B y) ∧ (∀ y, pv x = some y → B y)
/-- a new tree node beside -/
theorem zTn.new (h : zTn μ R o ν ky vl nx pa le ri pv rd B) (hl : zLks nx pa le ri pv B) {c x k v : Nat} {r : Option Nat} (hx : ¬ B x) (hx8 : x < 8192) (hc : μ c = none) (hr : ∀ y, r = some y → B y) (hμ : μ' = updM μ c (hnT R o x, oTn x k v (r.map ν) none none none none 0)) :
    zTn μ' R o (upN ν x c) (upN ky x k) (upN vl x v) (va_up nx x r) (va_up pa x none) (va_up le x none) (va_up ri x none) (va_up pv x none) (upd rd x 0) (fun y => B y ∨ y = x) := by
  intro y hy
  by_cases e : y = x
  · subst e
    refine ⟨hx8, ?_⟩
    rw [upN_eq, upN_eq, upN_eq, va_up_self, va_up_self, va_up_self, va_up_self, va_up_self, pk_us, hμ, updM_eq, zOmap (r := r) (ν := ν) (ν' := upN ν y c) (fun z hz => upN_ne (fun q => hx (q ▸ hr z hz)))]
    rfl
  · have hB : B y := hy.resolve_right e
    obtain ⟨h1, h2⟩ := h y hB
    obtain ⟨l1, l2, l3, l4, l5⟩ := hl y hB
    have ne : ∀ z, B z → upN ν x c z = ν z := fun z hz => upN_ne (fun q => hx (q ▸ hz))
    refine ⟨h1, ?_⟩
    rw [upN_ne e, upN_ne e, upN_ne e, va_up_ne _ _ e, va_up_ne _ _ e, va_up_ne _ _ e, va_up_ne _ _ e, va_up_ne _ _ e, pk_un e, zOmap (fun z hz => ne z (l1 z hz)), zOmap (fun z hz => ne z (l2 z hz)), zOmap (fun z hz => ne z (l3 z hz)), zOmap (fun z hz => ne z (l4 z hz)), zOmap (fun z hz => ne z (l5 z hz)), hμ, updM_ne (zneN h2 hc)]
    exact h2
end ZPT
