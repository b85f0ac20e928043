/-! LEAF classes, part 2: Time, Show, Booking, Promise, Order -/
set_option maxRecDepth 100000
abbrev oSh (k : Int32) (t : Nat) (st la wo mo : Int32) (fr : Nat) : va_E := .inr (5, [.int k, .ref t, .int st, .int la, .int wo, .int mo, .ref fr])
abbrev oBk (sh se sc bd co st rf : Int32) (r : Nat) : va_E := .inr (6, [.int sh, .int se, .int sc, .int bd, .int co, .int st, .int rf, .ref r])
abbrev oPr (sc k se la st : Int32) (ct : Nat) : va_E := .inr (7, [.int sc, .int k, .int se, .int la, .int st, .ref ct])
abbrev oOr (x : Int32) (n : Nat) : va_E := .inr (10, [.int x, .ref n])
/-- only the cells at these addresses may change -/
theorem zKp.up {μ : zM} {a : Nat} {x : zT × va_E} : zKp (fun c _ => c = a) μ (updM μ a x) := fun b t e hb n => (updM_ne n).trans hb
section ZLF2
variable {G : zG} {μ : zM}
theorem C_Time_hash {a : Nat} {t : zT} {d s : Int32} (ha : μ a = some (t, oTime d s)) : Meets G 1 MX8_hashCode [.ref a] μ (zPure (.int (6 * d + s)) μ) 0 0 := by
  refine meets_of (by decide +kernel) (Nat.le_of_ble_eq_true rfl) ?_
  refine aw_bipush (v := 6) (q := 2) dX8_hashCode_0 rfl rfl ?_
  first | refine aw_aload_n (i := 0) (q := 3) dX8_hashCode_2 rfl rfl rfl ?_ | refine aw_aloadN_n (i := 0) (q := 3) dX8_hashCode_2 rfl rfl rfl ?_ | refine aw_aloadQ_n (i := 0) (q := 3) dX8_hashCode_2 rfl rfl rfl ?_
  refine aw_getfield (q := 6) dX8_hashCode_3 gf_X8_9_8 (by assumption) rfl rfl ?_
  refine aw_imul (q := 7) dX8_hashCode_6 rfl ?_
  first | refine aw_aload_n (i := 0) (q := 8) dX8_hashCode_7 rfl rfl rfl ?_ | refine aw_aloadN_n (i := 0) (q := 8) dX8_hashCode_7 rfl rfl rfl ?_ | refine aw_aloadQ_n (i := 0) (q := 8) dX8_hashCode_7 rfl rfl rfl ?_
  refine aw_getfield (q := 11) dX8_hashCode_8 gf_X8_15_8 (by assumption) rfl rfl ?_
  refine aw_iadd (q := 12) dX8_hashCode_11 rfl ?_
  exact aw_ireturn dX8_hashCode_12 rfl (by first | rfl | exact zB_nar _) (⟨rfl, rfl⟩)
theorem C_Time_equals {a b : Nat} {t t' : zT} {d s d' s' : Int32} (ha : μ a = some (t, oTime d s)) (hb : μ b = some (t', oTime d' s')) : Meets G 1 MX8_equals [.ref a, .ref b] μ (zPure (.int (zB (d' = d ∧ s' = s))) μ) 0 0 := by
  refine meets_of (by decide +kernel) (Nat.le_of_ble_eq_true rfl) ?_
  first | refine aw_aload_n (i := 1) (q := 1) dX8_equals_0 rfl rfl rfl ?_ | refine aw_aloadN_n (i := 1) (q := 1) dX8_equals_0 rfl rfl rfl ?_ | refine aw_aloadQ_n (i := 1) (q := 1) dX8_equals_0 rfl rfl rfl ?_
  refine aw_instY (q := 4) dX8_equals_1 q1141 hb ca_8_X8 rfl ?_
  refine aw_if_eq (tgt := 39) (q := 7) dX8_equals_4 (by decide) rfl (fun hZ => absurd hZ ((by decide))) (fun _ => ?_)
  first | refine aw_aload_n (i := 1) (q := 8) dX8_equals_7 rfl rfl rfl ?_ | refine aw_aloadN_n (i := 1) (q := 8) dX8_equals_7 rfl rfl rfl ?_ | refine aw_aloadQ_n (i := 1) (q := 8) dX8_equals_7 rfl rfl rfl ?_
  refine aw_cast (q := 11) dX8_equals_8 q1141 hb ca_8_X8 rfl ?_
  refine aw_getfield (q := 14) dX8_equals_11 gf_X8_9_8 (by assumption) rfl rfl ?_
  first | refine aw_aload_n (i := 0) (q := 15) dX8_equals_14 rfl rfl rfl ?_ | refine aw_aloadN_n (i := 0) (q := 15) dX8_equals_14 rfl rfl rfl ?_ | refine aw_aloadQ_n (i := 0) (q := 15) dX8_equals_14 rfl rfl rfl ?_
  refine aw_getfield (q := 18) dX8_equals_15 gf_X8_9_8 (by assumption) rfl rfl ?_
  refine aw_icmp_ne (tgt := 39) (q := 21) dX8_equals_18 (by decide) rfl (fun h1 => ?_) (fun h1 => ?_)
  · refine aw_iconst (v := 0) (q := 40) dX8_equals_39 rfl rfl ?_
    exact aw_ireturn dX8_equals_40 rfl (by first | rfl | exact zB_nar _) (by refine ⟨?_, rfl⟩; rw [zB_f (fun q => h1 q.1)])
  · first | refine aw_aload_n (i := 1) (q := 22) dX8_equals_21 rfl rfl rfl ?_ | refine aw_aloadN_n (i := 1) (q := 22) dX8_equals_21 rfl rfl rfl ?_ | refine aw_aloadQ_n (i := 1) (q := 22) dX8_equals_21 rfl rfl rfl ?_
    refine aw_cast (q := 25) dX8_equals_22 q1141 hb ca_8_X8 rfl ?_
    refine aw_getfield (q := 28) dX8_equals_25 gf_X8_15_8 (by assumption) rfl rfl ?_
    first | refine aw_aload_n (i := 0) (q := 29) dX8_equals_28 rfl rfl rfl ?_ | refine aw_aloadN_n (i := 0) (q := 29) dX8_equals_28 rfl rfl rfl ?_ | refine aw_aloadQ_n (i := 0) (q := 29) dX8_equals_28 rfl rfl rfl ?_
    refine aw_getfield (q := 32) dX8_equals_29 gf_X8_15_8 (by assumption) rfl rfl ?_
    refine aw_icmp_ne (tgt := 39) (q := 35) dX8_equals_32 (by decide) rfl (fun h2 => ?_) (fun h2 => ?_)
    · refine aw_iconst (v := 0) (q := 40) dX8_equals_39 rfl rfl ?_
      exact aw_ireturn dX8_equals_40 rfl (by first | rfl | exact zB_nar _) (by refine ⟨?_, rfl⟩; rw [zB_f (fun q => h2 q.2)])
    · refine aw_iconst (v := 1) (q := 36) dX8_equals_35 rfl rfl ?_
      refine aw_goto (tgt := 40) dX8_equals_36 (by decide) ?_
      exact aw_ireturn dX8_equals_40 rfl (by first | rfl | exact zB_nar _) (by refine ⟨?_, rfl⟩; rw [zB_t ⟨h1, h2⟩])
/-- the next slot: day d, slot s -/
theorem C_Time_next {a d s : Nat} {t u : zT} (ha : μ a = some (t, oTime (nI d) (nI s))) (hs : s < 6) (hd : d < 2 ^ 24) (hu : u ≠ zC) : Meets G 3 MX8_next [.ref a] μ (fun v μ' => ∃ b, v = some (.ref b) ∧ μ b = none ∧ μ' = updM μ b (u, oTime (nI ((6 * d + s + 1) / 6)) (nI ((6 * d + s + 1) % 6)))) 1 2 := by
  refine meets_of (by decide +kernel) (Nat.le_of_ble_eq_true rfl) ?_
  first | refine aw_aload_n (i := 0) (q := 1) dX8_next_0 rfl rfl rfl ?_ | refine aw_aloadN_n (i := 0) (q := 1) dX8_next_0 rfl rfl rfl ?_ | refine aw_aloadQ_n (i := 0) (q := 1) dX8_next_0 rfl rfl rfl ?_
  refine aw_getfield (q := 4) dX8_next_1 gf_X8_15_8 (by assumption) rfl rfl ?_
  refine aw_iconst (v := 1) (q := 5) dX8_next_4 rfl rfl ?_
  refine aw_iadd (q := 6) dX8_next_5 rfl ?_
  refine aw_bipush (v := 6) (q := 8) dX8_next_6 rfl rfl ?_
  rw [nI_1]
  by_cases h5 : s + 1 < 6
  · refine aw_icmp_ge (tgt := 31) (q := 11) dX8_next_8 (by decide) rfl (fun hZ => absurd hZ (nI_ge (b := 6) (a := s + 1) h5 (by omega))) (fun _ => ?_)
    refine AW.sub (bc' := 1) (bs' := 2) (by omega) (by omega) ?_
    refine aw_new (q := 14) dX8_next_11 nw_X8_10 u (by first | assumption | simp) rfl (fun b μ1 hn_b hg_μ1 => ?_)
    have ha : μ1 _ = some _ := hg_μ1 ▸ (updM_ne (zneN ha hn_b)).trans ha
    have h_b : μ1 b = some _ := hg_μ1 ▸ updM_eq _ _ _
    refine aw_dup (q := 15) dX8_next_14 (by first | rfl | exact zcat_rf _) rfl ?_
    first | refine aw_aload_n (i := 0) (q := 16) dX8_next_15 rfl rfl rfl ?_ | refine aw_aloadN_n (i := 0) (q := 16) dX8_next_15 rfl rfl rfl ?_ | refine aw_aloadQ_n (i := 0) (q := 16) dX8_next_15 rfl rfl rfl ?_
    refine aw_getfield (q := 19) dX8_next_16 gf_X8_9_8 (by assumption) rfl rfl ?_
    first | refine aw_aload_n (i := 0) (q := 20) dX8_next_19 rfl rfl rfl ?_ | refine aw_aloadN_n (i := 0) (q := 20) dX8_next_19 rfl rfl rfl ?_ | refine aw_aloadQ_n (i := 0) (q := 20) dX8_next_19 rfl rfl rfl ?_
    refine aw_getfield (q := 23) dX8_next_20 gf_X8_15_8 (by assumption) rfl rfl ?_
    refine aw_iconst (v := 1) (q := 24) dX8_next_23 rfl rfl ?_
    refine aw_iadd (q := 25) dX8_next_24 rfl ?_
    rw [nI_1]
    refine aw_callI (q := 28) dX8_next_25 (C_Time_init h_b hu) ci_X8_18 rfl rfl (by decide) (by decide) (by first | exact Nat.le_of_ble_eq_true rfl | simp [zcat_rf, Value.category]) rfl (fun v25 μ2 hp => ?_)
    obtain ⟨rfl, hg⟩ := hp
    refine aw_goto (tgt := 45) dX8_next_28 (by decide) ?_
    exact aw_areturnR dX8_next_45 rfl (by first | exact Or.inl ⟨_, rfl⟩ | exact Or.inr ⟨_, rfl⟩) (by exact ⟨b, rfl, hn_b, by rw [hg, hg_μ1, updM_twice, show (6 * d + s + 1) / 6 = d by omega, show (6 * d + s + 1) % 6 = s + 1 by omega]⟩)
  · skip
    refine aw_icmp_ge (tgt := 31) (q := 11) dX8_next_8 (by decide) rfl (fun _ => ?_) (fun hZ => absurd (nI_le (a := 6) (b := s + 1) (by omega) (by omega)) hZ)
    refine AW.sub (bc' := 1) (bs' := 2) (by omega) (by omega) ?_
    refine aw_new (q := 34) dX8_next_31 nw_X8_10 u (by first | assumption | simp) rfl (fun b μ1 hn_b hg_μ1 => ?_)
    have ha : μ1 _ = some _ := hg_μ1 ▸ (updM_ne (zneN ha hn_b)).trans ha
    have h_b : μ1 b = some _ := hg_μ1 ▸ updM_eq _ _ _
    refine aw_dup (q := 35) dX8_next_34 (by first | rfl | exact zcat_rf _) rfl ?_
    first | refine aw_aload_n (i := 0) (q := 36) dX8_next_35 rfl rfl rfl ?_ | refine aw_aloadN_n (i := 0) (q := 36) dX8_next_35 rfl rfl rfl ?_ | refine aw_aloadQ_n (i := 0) (q := 36) dX8_next_35 rfl rfl rfl ?_
    refine aw_getfield (q := 39) dX8_next_36 gf_X8_9_8 (by assumption) rfl rfl ?_
    refine aw_iconst (v := 1) (q := 40) dX8_next_39 rfl rfl ?_
    refine aw_iadd (q := 41) dX8_next_40 rfl ?_
    refine aw_iconst (v := 0) (q := 42) dX8_next_41 rfl rfl ?_
    rw [nI_1]
    refine aw_callI (q := 45) dX8_next_42 (C_Time_init h_b hu) ci_X8_18 rfl rfl (by decide) (by decide) (by first | exact Nat.le_of_ble_eq_true rfl | simp [zcat_rf, Value.category]) rfl (fun v42 μ2 hp => ?_)
    obtain ⟨rfl, hg⟩ := hp
    exact aw_areturnR dX8_next_45 rfl (by first | exact Or.inl ⟨_, rfl⟩ | exact Or.inr ⟨_, rfl⟩) (by exact ⟨b, rfl, hn_b, by rw [hg, hg_μ1, updM_twice, show (6 * d + s + 1) / 6 = d + 1 by omega, show (6 * d + s + 1) % 6 = 0 by omega]; rfl⟩)
/-- a new show -/
def zShNew (G : zG) (μ : zM) (a : Nat) (u uf : zT) (k : Int32) (t : Nat) (st la wo mo : Int32) (f : Nat → Int32) : zM → Prop := fun μ' => ∃ fr f', μ fr = none ∧ μ' a = some (u, oSh k t st la wo mo fr) ∧ μ' fr = some (uf, aI G 8 f') ∧ (∀ r, r < 8 → f' r = f r) ∧ zKp (fun c _ => c = a) μ μ'
theorem C_Show_init2 {a t : Nat} {u uf : zT} {k : Int32} (ha : μ a = some (u, .inr (5, [.int 0, .null, .int 0, .int 0, .int 0, .int 0, .null]))) (hu : u ≠ zC) (huf : uf ≠ zC) : Meets G 2 MX5_init_2 [.ref a, .int k, .ref t] μ (fun v μ' => v = none ∧ zShNew G μ a u uf k t 0 (-6) 0 0 (fun _ => 12) μ') 1 8 := by
  refine meets_of (by decide +kernel) (Nat.le_of_ble_eq_true rfl) ?_
  first | refine aw_aload_n (i := 0) (q := 1) dX5_init_2_0 rfl rfl rfl ?_ | refine aw_aloadN_n (i := 0) (q := 1) dX5_init_2_0 rfl rfl rfl ?_ | refine aw_aloadQ_n (i := 0) (q := 1) dX5_init_2_0 rfl rfl rfl ?_
  refine aw_objInit (q := 4) dX5_init_2_1 oi_X5_3 (by decide) (by first | exact Nat.le_of_ble_eq_true rfl | simp [zcat_rf, Value.category]) rfl ?_
  first | refine aw_aload_n (i := 0) (q := 5) dX5_init_2_4 rfl rfl rfl ?_ | refine aw_aloadN_n (i := 0) (q := 5) dX5_init_2_4 rfl rfl rfl ?_ | refine aw_aloadQ_n (i := 0) (q := 5) dX5_init_2_4 rfl rfl rfl ?_
  refine aw_iconst (v := 0) (q := 6) dX5_init_2_5 rfl rfl ?_
  refine aw_putfield (q := 9) dX5_init_2_6 gf_X5_9_5 ha (by first | assumption | simp) (by first | rfl | exact znar_rf _ _ | exact zB_nar _) (by first | rfl | exact zfit_rf _ _ | exact zB_fit _) (Nat.le_of_ble_eq_true rfl) rfl (fun μ1 hg_μ1 => ?_)
  have ha : μ1 _ = some _ := hg_μ1 ▸ updM_eq _ _ _
  simp only [List.set] at ha hg_μ1
  have hk1 : zKp (fun c _ => c = a) μ μ1 := hg_μ1 ▸ zKp.up
  first | refine aw_aload_n (i := 0) (q := 10) dX5_init_2_9 rfl rfl rfl ?_ | refine aw_aloadN_n (i := 0) (q := 10) dX5_init_2_9 rfl rfl rfl ?_ | refine aw_aloadQ_n (i := 0) (q := 10) dX5_init_2_9 rfl rfl rfl ?_
  refine aw_bipush (v := (-6)) (q := 12) dX5_init_2_10 rfl rfl ?_
  refine aw_putfield (q := 15) dX5_init_2_12 gf_X5_15_5 ha (by first | assumption | simp) (by first | rfl | exact znar_rf _ _ | exact zB_nar _) (by first | rfl | exact zfit_rf _ _ | exact zB_fit _) (Nat.le_of_ble_eq_true rfl) rfl (fun μ2 hg_μ2 => ?_)
  have ha : μ2 _ = some _ := hg_μ2 ▸ updM_eq _ _ _
  simp only [List.set] at ha hg_μ2
  have hk2 : zKp (fun c _ => c = a) μ1 μ2 := hg_μ2 ▸ zKp.up
  refine AW.bud (bc' := 0 + 1) (bs' := 0 + 8) ?_ (by omega) (by omega)
  first | refine aw_aload_n (i := 0) (q := 16) dX5_init_2_15 rfl rfl rfl ?_ | refine aw_aloadN_n (i := 0) (q := 16) dX5_init_2_15 rfl rfl rfl ?_ | refine aw_aloadQ_n (i := 0) (q := 16) dX5_init_2_15 rfl rfl rfl ?_
  refine aw_bipush (v := 8) (q := 18) dX5_init_2_16 rfl rfl ?_
  refine AW.sub (bc' := 1) (bs' := 8) (by omega) (by omega) ?_
  refine aw_newa (N := 8) (q := 20) dX5_init_2_18 rfl (by omega) uf (by first | assumption | simp) rfl (fun fr μ3 hn_fr hg_μ3 => ?_)
  have ha : μ3 _ = some _ := hg_μ3 ▸ (updM_ne (zneN ha hn_fr)).trans ha
  have h_fr : μ3 fr = some _ := hg_μ3 ▸ updM_eq _ _ _
  have hk3 : zKp (fun c _ => c = a) μ2 μ3 := hg_μ3 ▸ zKp.new hn_fr
  have hfr0 : μ fr = none := by
    have ne : fr ≠ a := fun e => by rw [e, hg_μ2, updM_eq] at hn_fr; cases hn_fr
    rw [hg_μ2, updM_ne ne, hg_μ1, updM_ne ne] at hn_fr
    exact hn_fr
  have ne : fr ≠ a := fun e => by rw [e, hg_μ2, updM_eq] at hn_fr; cases hn_fr
  refine aw_putF (q := 23) dX5_init_2_20 pf_X5_18_5 rfl ha (by first | assumption | simp) (by first | rfl | exact znar_rf _ _ | exact zB_nar _) (by first | rfl | exact zfit_rf _ _ | exact zB_fit _) (Nat.le_of_ble_eq_true rfl) rfl (fun μ4 hg_μ4 => ?_)
  have h_fr : μ4 _ = some _ := hg_μ4 ▸ (updM_ne ne).trans h_fr
  have ha : μ4 _ = some _ := hg_μ4 ▸ updM_eq _ _ _
  simp only [List.set] at ha hg_μ4
  have hk4 : zKp (fun c _ => c = a) μ3 μ4 := hg_μ4 ▸ zKp.up
  have hk : zKp (fun c _ => c = a) μ μ4 := ((hk1.tr hk2).tr hk3).tr hk4
  refine aw_iconst (v := 0) (q := 24) dX5_init_2_23 rfl rfl ?_
  refine aw_istore_n (i := 3) (q := 25) dX5_init_2_24 rfl (by decide) rfl ?_
  have loop : ∀ n e, e + n = 8 → ∀ (μ5 : zM) (f : Nat → Int32), (∀ r, r < e → f r = 12) → μ5 a = some (u, .inr (5, [.int 0, .null, .int 0, .int (-6), .int 0, .int 0, .ref fr])) → μ5 fr = some (uf, aI G 8 f) → zKp (fun c _ => c = a ∨ c = fr) μ μ5 → AW G 2 MX5_init_2 (fun v μ' => v = none ∧ zShNew G μ a u uf k t 0 (-6) 0 0 (fun _ => 12) μ') 0 0 25 [(0, .ref a), (1, .int k), (2, .ref t), (3, .int (nI e))] [] μ5 := by
    intro n
    induction n with
    | zero =>
      intro e he μ5 f hf ha hfr hk
      refine aw_iload_n (i := 3) (q := 26) dX5_init_2_25 rfl rfl rfl ?_
      refine aw_bipush (v := 8) (q := 28) dX5_init_2_26 rfl rfl ?_
      refine aw_icmp_ge (tgt := 45) (q := 31) dX5_init_2_28 (by decide) rfl (fun _ => ?_) (fun hZ => absurd (nI_le (a := 8) (by omega) (by omega)) hZ)
      first | refine aw_aload_n (i := 0) (q := 46) dX5_init_2_45 rfl rfl rfl ?_ | refine aw_aloadN_n (i := 0) (q := 46) dX5_init_2_45 rfl rfl rfl ?_ | refine aw_aloadQ_n (i := 0) (q := 46) dX5_init_2_45 rfl rfl rfl ?_
      refine aw_iload_n (i := 1) (q := 47) dX5_init_2_46 rfl rfl rfl ?_
      refine aw_putF (q := 50) dX5_init_2_47 pf_X5_22_5 rfl ha (by first | assumption | simp) (by first | rfl | exact znar_rf _ _ | exact zB_nar _) (by first | rfl | exact zfit_rf _ _ | exact zB_fit _) (Nat.le_of_ble_eq_true rfl) rfl (fun μ6 hg_μ6 => ?_)
      have hfr : μ6 _ = some _ := hg_μ6 ▸ (updM_ne ne).trans hfr
      have ha : μ6 _ = some _ := hg_μ6 ▸ updM_eq _ _ _
      simp only [List.set] at ha hg_μ6
      have hk6 : zKp (fun c _ => c = a) μ5 μ6 := hg_μ6 ▸ zKp.up
      first | refine aw_aload_n (i := 0) (q := 51) dX5_init_2_50 rfl rfl rfl ?_ | refine aw_aloadN_n (i := 0) (q := 51) dX5_init_2_50 rfl rfl rfl ?_ | refine aw_aloadQ_n (i := 0) (q := 51) dX5_init_2_50 rfl rfl rfl ?_
      first | refine aw_aload_n (i := 2) (q := 52) dX5_init_2_51 rfl rfl rfl ?_ | refine aw_aloadN_n (i := 2) (q := 52) dX5_init_2_51 rfl rfl rfl ?_ | refine aw_aloadQ_n (i := 2) (q := 52) dX5_init_2_51 rfl rfl rfl ?_
      refine aw_putfield (q := 55) dX5_init_2_52 gf_X5_25_5 ha (by first | assumption | simp) (by first | rfl | exact znar_rf _ _ | exact zB_nar _) (by first | rfl | exact zfit_rf _ _ | exact zB_fit _) (Nat.le_of_ble_eq_true rfl) rfl (fun μ7 hg_μ7 => ?_)
      have hfr : μ7 _ = some _ := hg_μ7 ▸ (updM_ne ne).trans hfr
      have ha : μ7 _ = some _ := hg_μ7 ▸ updM_eq _ _ _
      simp only [List.set] at ha hg_μ7
      have hk7 : zKp (fun c _ => c = a) μ6 μ7 := hg_μ7 ▸ zKp.up
      have hkk : zKp (fun c _ => c = a) μ μ7 := fun c tc ec hc hn => (((hk.tr (hk6.mono (fun _ _ q => Or.inl q))).tr (hk7.mono (fun _ _ q => Or.inl q)))) c tc ec hc (fun q => q.elim hn (fun q => by rw [q, hfr0] at hc; cases hc))
      exact aw_return dX5_init_2_55 rfl (⟨rfl, fr, f, hfr0, ha, hfr, fun r hr => hf r (by omega), hkk⟩)
    | succ n ih =>
      intro e he μ5 f hf ha hfr hk
      refine aw_iload_n (i := 3) (q := 26) dX5_init_2_25 rfl rfl rfl ?_
      refine aw_bipush (v := 8) (q := 28) dX5_init_2_26 rfl rfl ?_
      refine aw_icmp_ge (tgt := 45) (q := 31) dX5_init_2_28 (by decide) rfl (fun hZ => absurd hZ (nI_ge (a := e) (b := 8) (by omega) (by omega))) (fun _ => ?_)
      first | refine aw_aload_n (i := 0) (q := 32) dX5_init_2_31 rfl rfl rfl ?_ | refine aw_aloadN_n (i := 0) (q := 32) dX5_init_2_31 rfl rfl rfl ?_ | refine aw_aloadQ_n (i := 0) (q := 32) dX5_init_2_31 rfl rfl rfl ?_
      refine aw_getfield (q := 35) dX5_init_2_32 gf_X5_18_5 (by assumption) rfl rfl ?_
      refine aw_iload_n (i := 3) (q := 36) dX5_init_2_35 rfl rfl rfl ?_
      refine aw_bipush (v := 12) (q := 38) dX5_init_2_36 rfl rfl ?_
      refine aw_iast (q := 39) (e) dX5_init_2_38 hfr (by first | assumption | simp) (by first | assumption | (simp only [← nI_add, ← pk_mul]; rfl) | rfl) (by omega) (by omega) rfl (fun μ6 hg_μ6 => ?_)
      have ha : μ6 _ = some _ := hg_μ6 ▸ (updM_ne (Ne.symm ne)).trans ha
      have hfr : μ6 _ = some _ := hg_μ6 ▸ updM_eq _ _ _
      have hk6 : zKp (fun c _ => c = fr) μ5 μ6 := hg_μ6 ▸ zKp.up
      refine aw_iinc (q := 42) dX5_init_2_39 rfl (by first | exact nI_1 _ | rfl) (by decide) rfl ?_
      refine aw_goto (tgt := 25) dX5_init_2_42 (by decide) ?_
      exact AW.bud (aw_locals (by exact ⟨rfl, rfl, rfl, rfl, trivial⟩) (ih (e + 1) (by omega) μ6 _ (fun r hr => by (by_cases er : r = e; (subst er; exact pk_us); (rw [pk_un er]; exact hf r (by omega)))) ha hfr (hk.tr (hk6.mono (fun _ _ q => Or.inr q))))) (by omega) (by omega)
  exact AW.bud (aw_locals (by exact ⟨rfl, rfl, rfl, rfl, trivial⟩) (loop 8 0 (by omega) μ4 _ (fun r hr => by omega) ha h_fr (hk.mono (fun _ _ q => Or.inl q)))) (by omega) (by omega)
theorem zShNew.ne {a : Nat} {u uf : zT} {k : Int32} {t : Nat} {st la wo mo : Int32} {f : Nat → Int32} {μ' : zM} (h : zShNew G μ a u uf k t st la wo mo f μ') (ha : ∃ x, μ a = some x) : ∃ fr f', fr ≠ a ∧ μ fr = none ∧ μ' a = some (u, oSh k t st la wo mo fr) ∧ μ' fr = some (uf, aI G 8 f') ∧ (∀ r, r < 8 → f' r = f r) ∧ zKp (fun c _ => c = a) μ μ' := by
  obtain ⟨fr, f', h1, h2⟩ := h
  obtain ⟨x, hx⟩ := ha
  exact ⟨fr, f', fun e => by (rw [e, hx] at h1; cases h1), h1, h2⟩
theorem C_Show_init {a b t fb : Nat} {u uf tb tf : zT} {k st la wo mo : Int32} {f : Nat → Int32} (ha : μ a = some (u, .inr (5, [.int 0, .null, .int 0, .int 0, .int 0, .int 0, .null]))) (hu : u ≠ zC) (huf : uf ≠ zC) (hb : μ b = some (tb, oSh k t st la wo mo fb)) (hf : μ fb = some (tf, aI G 8 f)) (hne : b ≠ a) : Meets G 3 MX5_init [.ref a, .ref b] μ (fun v μ' => v = none ∧ zShNew G μ a u uf k t st la wo mo f μ') 1 8 := by
  have hfa : fb ≠ a := zneq hf ha (by simp)
  have ha0 := ha
  have hf0 := hf
  refine meets_of (by decide +kernel) (Nat.le_of_ble_eq_true rfl) ?_
  refine AW.bud (bc' := 0 + 1) (bs' := 0 + 8) ?_ (by omega) (by omega)
  first | refine aw_aload_n (i := 0) (q := 1) dX5_init_0 rfl rfl rfl ?_ | refine aw_aloadN_n (i := 0) (q := 1) dX5_init_0 rfl rfl rfl ?_ | refine aw_aloadQ_n (i := 0) (q := 1) dX5_init_0 rfl rfl rfl ?_
  first | refine aw_aload_n (i := 1) (q := 2) dX5_init_1 rfl rfl rfl ?_ | refine aw_aloadN_n (i := 1) (q := 2) dX5_init_1 rfl rfl rfl ?_ | refine aw_aloadQ_n (i := 1) (q := 2) dX5_init_1 rfl rfl rfl ?_
  refine aw_getfield (q := 5) dX5_init_2 gf_X5_22_5 (by assumption) rfl rfl ?_
  first | refine aw_aload_n (i := 1) (q := 6) dX5_init_5 rfl rfl rfl ?_ | refine aw_aloadN_n (i := 1) (q := 6) dX5_init_5 rfl rfl rfl ?_ | refine aw_aloadQ_n (i := 1) (q := 6) dX5_init_5 rfl rfl rfl ?_
  refine aw_getfield (q := 9) dX5_init_6 gf_X5_25_5 (by assumption) rfl rfl ?_
  refine aw_callI (q := 12) dX5_init_9 (C_Show_init2 ha hu huf) ci_X5_29 rfl rfl (by decide) (by decide) (by first | exact Nat.le_of_ble_eq_true rfl | simp [zcat_rf, Value.category]) rfl (fun v9 μ1 hp => ?_)
  obtain ⟨rfl, hnew⟩ := hp
  obtain ⟨fr, f', ne, hfr0, ha, hfr, -, hk1⟩ := hnew.ne ⟨_, ha0⟩
  have hb : μ1 b = _ := hk1 _ _ _ hb hne
  have hf : μ1 fb = _ := hk1 _ _ _ hf hfa
  have nef : fb ≠ fr := fun e => by rw [e, hfr0] at hf0; cases hf0
  first | refine aw_aload_n (i := 0) (q := 13) dX5_init_12 rfl rfl rfl ?_ | refine aw_aloadN_n (i := 0) (q := 13) dX5_init_12 rfl rfl rfl ?_ | refine aw_aloadQ_n (i := 0) (q := 13) dX5_init_12 rfl rfl rfl ?_
  first | refine aw_aload_n (i := 1) (q := 14) dX5_init_13 rfl rfl rfl ?_ | refine aw_aloadN_n (i := 1) (q := 14) dX5_init_13 rfl rfl rfl ?_ | refine aw_aloadQ_n (i := 1) (q := 14) dX5_init_13 rfl rfl rfl ?_
  refine aw_getfield (q := 17) dX5_init_14 gf_X5_9_5 (by assumption) rfl rfl ?_
  refine aw_putfield (q := 20) dX5_init_17 gf_X5_9_5 ha (by first | assumption | simp) (by first | rfl | exact znar_rf _ _ | exact zB_nar _) (by first | rfl | exact zfit_rf _ _ | exact zB_fit _) (Nat.le_of_ble_eq_true rfl) rfl (fun μ2 hg_μ2 => ?_)
  have hb : μ2 _ = some _ := hg_μ2 ▸ (updM_ne hne).trans hb
  have hf : μ2 _ = some _ := hg_μ2 ▸ (updM_ne hfa).trans hf
  have hfr : μ2 _ = some _ := hg_μ2 ▸ (updM_ne ne).trans hfr
  have ha : μ2 _ = some _ := hg_μ2 ▸ updM_eq _ _ _
  simp only [List.set] at ha hg_μ2
  have hk2 : zKp (fun c _ => c = a) μ1 μ2 := hg_μ2 ▸ zKp.up
  first | refine aw_aload_n (i := 0) (q := 21) dX5_init_20 rfl rfl rfl ?_ | refine aw_aloadN_n (i := 0) (q := 21) dX5_init_20 rfl rfl rfl ?_ | refine aw_aloadQ_n (i := 0) (q := 21) dX5_init_20 rfl rfl rfl ?_
  first | refine aw_aload_n (i := 1) (q := 22) dX5_init_21 rfl rfl rfl ?_ | refine aw_aloadN_n (i := 1) (q := 22) dX5_init_21 rfl rfl rfl ?_ | refine aw_aloadQ_n (i := 1) (q := 22) dX5_init_21 rfl rfl rfl ?_
  refine aw_getfield (q := 25) dX5_init_22 gf_X5_15_5 (by assumption) rfl rfl ?_
  refine aw_putfield (q := 28) dX5_init_25 gf_X5_15_5 ha (by first | assumption | simp) (by first | rfl | exact znar_rf _ _ | exact zB_nar _) (by first | rfl | exact zfit_rf _ _ | exact zB_fit _) (Nat.le_of_ble_eq_true rfl) rfl (fun μ3 hg_μ3 => ?_)
  have hb : μ3 _ = some _ := hg_μ3 ▸ (updM_ne hne).trans hb
  have hf : μ3 _ = some _ := hg_μ3 ▸ (updM_ne hfa).trans hf
  have hfr : μ3 _ = some _ := hg_μ3 ▸ (updM_ne ne).trans hfr
  have ha : μ3 _ = some _ := hg_μ3 ▸ updM_eq _ _ _
  simp only [List.set] at ha hg_μ3
  have hk3 : zKp (fun c _ => c = a) μ2 μ3 := hg_μ3 ▸ zKp.up
  first | refine aw_aload_n (i := 0) (q := 29) dX5_init_28 rfl rfl rfl ?_ | refine aw_aloadN_n (i := 0) (q := 29) dX5_init_28 rfl rfl rfl ?_ | refine aw_aloadQ_n (i := 0) (q := 29) dX5_init_28 rfl rfl rfl ?_
  first | refine aw_aload_n (i := 1) (q := 30) dX5_init_29 rfl rfl rfl ?_ | refine aw_aloadN_n (i := 1) (q := 30) dX5_init_29 rfl rfl rfl ?_ | refine aw_aloadQ_n (i := 1) (q := 30) dX5_init_29 rfl rfl rfl ?_
  refine aw_getfield (q := 33) dX5_init_30 gf_X5_32_5 (by assumption) rfl rfl ?_
  refine aw_putfield (q := 36) dX5_init_33 gf_X5_32_5 ha (by first | assumption | simp) (by first | rfl | exact znar_rf _ _ | exact zB_nar _) (by first | rfl | exact zfit_rf _ _ | exact zB_fit _) (Nat.le_of_ble_eq_true rfl) rfl (fun μ4 hg_μ4 => ?_)
  have hb : μ4 _ = some _ := hg_μ4 ▸ (updM_ne hne).trans hb
  have hf : μ4 _ = some _ := hg_μ4 ▸ (updM_ne hfa).trans hf
  have hfr : μ4 _ = some _ := hg_μ4 ▸ (updM_ne ne).trans hfr
  have ha : μ4 _ = some _ := hg_μ4 ▸ updM_eq _ _ _
  simp only [List.set] at ha hg_μ4
  have hk4 : zKp (fun c _ => c = a) μ3 μ4 := hg_μ4 ▸ zKp.up
  first | refine aw_aload_n (i := 0) (q := 37) dX5_init_36 rfl rfl rfl ?_ | refine aw_aloadN_n (i := 0) (q := 37) dX5_init_36 rfl rfl rfl ?_ | refine aw_aloadQ_n (i := 0) (q := 37) dX5_init_36 rfl rfl rfl ?_
  first | refine aw_aload_n (i := 1) (q := 38) dX5_init_37 rfl rfl rfl ?_ | refine aw_aloadN_n (i := 1) (q := 38) dX5_init_37 rfl rfl rfl ?_ | refine aw_aloadQ_n (i := 1) (q := 38) dX5_init_37 rfl rfl rfl ?_
  refine aw_getfield (q := 41) dX5_init_38 gf_X5_35_5 (by assumption) rfl rfl ?_
  refine aw_putfield (q := 44) dX5_init_41 gf_X5_35_5 ha (by first | assumption | simp) (by first | rfl | exact znar_rf _ _ | exact zB_nar _) (by first | rfl | exact zfit_rf _ _ | exact zB_fit _) (Nat.le_of_ble_eq_true rfl) rfl (fun μ5 hg_μ5 => ?_)
  have hb : μ5 _ = some _ := hg_μ5 ▸ (updM_ne hne).trans hb
  have hf : μ5 _ = some _ := hg_μ5 ▸ (updM_ne hfa).trans hf
  have hfr : μ5 _ = some _ := hg_μ5 ▸ (updM_ne ne).trans hfr
  have ha : μ5 _ = some _ := hg_μ5 ▸ updM_eq _ _ _
  simp only [List.set] at ha hg_μ5
  have hk5 : zKp (fun c _ => c = a) μ4 μ5 := hg_μ5 ▸ zKp.up
  first | refine aw_aload_n (i := 1) (q := 45) dX5_init_44 rfl rfl rfl ?_ | refine aw_aloadN_n (i := 1) (q := 45) dX5_init_44 rfl rfl rfl ?_ | refine aw_aloadQ_n (i := 1) (q := 45) dX5_init_44 rfl rfl rfl ?_
  refine aw_getfield (q := 48) dX5_init_45 gf_X5_18_5 (by assumption) rfl rfl ?_
  refine aw_iconst (v := 0) (q := 49) dX5_init_48 rfl rfl ?_
  first | refine aw_aload_n (i := 0) (q := 50) dX5_init_49 rfl rfl rfl ?_ | refine aw_aloadN_n (i := 0) (q := 50) dX5_init_49 rfl rfl rfl ?_ | refine aw_aloadQ_n (i := 0) (q := 50) dX5_init_49 rfl rfl rfl ?_
  refine aw_getfield (q := 53) dX5_init_50 gf_X5_18_5 (by assumption) rfl rfl ?_
  refine aw_iconst (v := 0) (q := 54) dX5_init_53 rfl rfl ?_
  refine aw_bipush (v := 8) (q := 56) dX5_init_54 rfl rfl ?_
  refine aw_copyX (j := 0) (sp := 0) (dp := 0) (n := 8) (q := 59) dX5_init_56 cp_X5_38 rfl rfl hf hfr huf rfl rfl rfl (by omega) (by omega) (by omega) (by omega) (fun i hi => rfl) (by decide) (Nat.le_of_ble_eq_true rfl) rfl (fun μ6 hg_μ6 => ?_)
  have ha : μ6 _ = some _ := hg_μ6 ▸ (updM_ne (Ne.symm ne)).trans ha
  have hfr : μ6 _ = some _ := hg_μ6 ▸ updM_eq _ _ _
  have hk6 : zKp (fun c _ => c = fr) μ5 μ6 := hg_μ6 ▸ zKp.up
  have hkk : zKp (fun c _ => c = a) μ μ6 := by
    intro c tc ec hc hn
    have ncf : c ≠ fr := fun q => by rw [q, hfr0] at hc; cases hc
    exact hk6 _ _ _ (hk5 _ _ _ (hk4 _ _ _ (hk3 _ _ _ (hk2 _ _ _ (hk1 _ _ _ hc hn) hn) hn) hn) hn) ncf
  exact aw_return dX5_init_59 rfl (⟨rfl, fr, _, hfr0, ha, hfr, fun r hr => by (rw [pk_cpy_in (Nat.zero_le _) (by omega)]; simp), hkk⟩)
theorem C_Show_allFree {a t fr : Nat} {u uf : zT} {k st la wo mo : Int32} {f : Nat → Int32} (ha : μ a = some (u, oSh k t st la wo mo fr)) (hf : μ fr = some (uf, aI G 8 f)) : Meets G 1 MX5_allFree [.ref a] μ (zPure (.int (tSumR f 8)) μ) 0 0 := by
  refine meets_of (by decide +kernel) (Nat.le_of_ble_eq_true rfl) ?_
  refine aw_iconst (v := 0) (q := 1) dX5_allFree_0 rfl rfl ?_
  refine aw_istore_n (i := 1) (q := 2) dX5_allFree_1 rfl (by decide) rfl ?_
  first | refine aw_aload_n (i := 0) (q := 3) dX5_allFree_2 rfl rfl rfl ?_ | refine aw_aloadN_n (i := 0) (q := 3) dX5_allFree_2 rfl rfl rfl ?_ | refine aw_aloadQ_n (i := 0) (q := 3) dX5_allFree_2 rfl rfl rfl ?_
  refine aw_getfield (q := 6) dX5_allFree_3 gf_X5_18_5 (by assumption) rfl rfl ?_
  first | refine aw_astore_n (i := 2) (q := 7) dX5_allFree_6 rfl (by decide) rfl ?_ | refine aw_astoreN_n (i := 2) (q := 7) dX5_allFree_6 rfl (by decide) rfl ?_ | refine aw_astoreQ_n (i := 2) (q := 7) dX5_allFree_6 rfl (by decide) rfl ?_
  first | refine aw_aload_n (i := 2) (q := 8) dX5_allFree_7 rfl rfl rfl ?_ | refine aw_aloadN_n (i := 2) (q := 8) dX5_allFree_7 rfl rfl rfl ?_ | refine aw_aloadQ_n (i := 2) (q := 8) dX5_allFree_7 rfl rfl rfl ?_
  first | refine aw_alenI (q := 9) dX5_allFree_8 (by assumption) rfl ?_ | refine aw_alenO (q := 9) dX5_allFree_8 (by assumption) rfl ?_ | refine aw_alenN (q := 9) dX5_allFree_8 (by assumption) rfl ?_ | refine aw_alenB (q := 9) dX5_allFree_8 (by assumption) rfl ?_ | refine aw_alenP (q := 9) dX5_allFree_8 (by assumption) rfl ?_
  refine aw_istore_n (i := 3) (q := 10) dX5_allFree_9 rfl (by decide) rfl ?_
  refine aw_iconst (v := 0) (q := 11) dX5_allFree_10 rfl rfl ?_
  refine aw_istore (q := 13) dX5_allFree_11 (by decide) rfl ?_
  have loop : ∀ n e, e + n = 8 → AW G 1 MX5_allFree (zPure (.int (tSumR f 8)) μ) 0 0 13 [(1, .int (tSumR f e)), (2, .ref fr), (3, .int (nI 8)), (4, .int (nI e))] [] μ := by
    intro n
    induction n with
    | zero =>
      intro e he
      refine aw_iload (q := 15) dX5_allFree_13 rfl rfl ?_
      refine aw_iload_n (i := 3) (q := 16) dX5_allFree_15 rfl rfl rfl ?_
      refine aw_icmp_ge (tgt := 36) (q := 19) dX5_allFree_16 (by decide) rfl (fun _ => ?_) (fun hZ => absurd (nI_le (a := 8) (by omega) (by omega)) hZ)
      refine aw_iload_n (i := 1) (q := 37) dX5_allFree_36 rfl rfl rfl ?_
      exact aw_ireturn dX5_allFree_37 rfl (by first | rfl | exact zB_nar _) (by refine ⟨?_, rfl⟩; rw [show e = 8 by omega])
    | succ n ih =>
      intro e he
      refine aw_iload (q := 15) dX5_allFree_13 rfl rfl ?_
      refine aw_iload_n (i := 3) (q := 16) dX5_allFree_15 rfl rfl rfl ?_
      refine aw_icmp_ge (tgt := 36) (q := 19) dX5_allFree_16 (by decide) rfl (fun hZ => absurd hZ (nI_ge (a := e) (b := 8) (by omega) (by omega))) (fun _ => ?_)
      first | refine aw_aload_n (i := 2) (q := 20) dX5_allFree_19 rfl rfl rfl ?_ | refine aw_aloadN_n (i := 2) (q := 20) dX5_allFree_19 rfl rfl rfl ?_ | refine aw_aloadQ_n (i := 2) (q := 20) dX5_allFree_19 rfl rfl rfl ?_
      refine aw_iload (q := 22) dX5_allFree_20 rfl rfl ?_
      refine aw_iald (q := 23) (v := f e) (e) dX5_allFree_22 (by assumption) (by first | assumption | (simp only [← nI_add, ← pk_mul]; rfl) | rfl) (by omega) (by omega) (rfl) rfl ?_
      refine aw_istore (q := 25) dX5_allFree_23 (by decide) rfl ?_
      refine aw_iload_n (i := 1) (q := 26) dX5_allFree_25 rfl rfl rfl ?_
      refine aw_iload (q := 28) dX5_allFree_26 rfl rfl ?_
      refine aw_iadd (q := 29) dX5_allFree_28 rfl ?_
      refine aw_istore_n (i := 1) (q := 30) dX5_allFree_29 rfl (by decide) rfl ?_
      refine aw_iinc (q := 33) dX5_allFree_30 rfl (by first | exact nI_1 _ | rfl) (by decide) rfl ?_
      refine aw_goto (tgt := 13) dX5_allFree_33 (by decide) ?_
      exact AW.bud (aw_locals (by exact ⟨rfl, rfl, rfl, rfl, trivial⟩) (ih (e + 1) (by omega))) (by omega) (by omega)
  exact AW.bud (aw_locals (by exact ⟨rfl, rfl, rfl, rfl, trivial⟩) (loop 8 0 (by omega))) (by omega) (by omega)
theorem C_Show_rowFor {a t fr : Nat} {u uf : zT} {k st la wo mo y : Int32} {f : Nat → Int32} (ha : μ a = some (u, oSh k t st la wo mo fr)) (hf : μ fr = some (uf, aI G 8 f)) : Meets G 1 MX5_rowFor [.ref a, .int y] μ (zPure (.int (nI (tRow f y))) μ) 0 0 := by
  refine meets_of (by decide +kernel) (Nat.le_of_ble_eq_true rfl) ?_
  refine aw_bipush (v := (-6)) (q := 2) dX5_rowFor_0 rfl rfl ?_
  refine aw_istore_n (i := 2) (q := 3) dX5_rowFor_2 rfl (by decide) rfl ?_
  refine aw_iconst (v := 0) (q := 4) dX5_rowFor_3 rfl rfl ?_
  refine aw_istore_n (i := 3) (q := 5) dX5_rowFor_4 rfl (by decide) rfl ?_
  refine aw_iconst (v := 0) (q := 6) dX5_rowFor_5 rfl rfl ?_
  refine aw_istore (q := 8) dX5_rowFor_6 (by decide) rfl ?_
  have loop : ∀ n e, e + n = 8 → AW G 1 MX5_rowFor (zPure (.int (nI (tRow f y))) μ) 0 0 8 [(0, .ref a), (1, .int y), (2, .int (zNo (tRowF f y e).1)), (3, .int (nI (tRowF f y e).2)), (4, .int (nI e))] [] μ := by
    intro n
    induction n with
    | zero =>
      intro e he
      have e8 : e = 8 := by omega
      subst e8
      obtain ⟨l1, l2⟩ := tRowF_lt f y 8
      have hz := zNo_lt (r := (tRowF f y 8).1) (fun j hj => by have := l1 j hj; omega)
      have hr : tRow f y = (match (tRowF f y 8).1 with | none => (tRowF f y 8).2 | some j => j) := rfl
      generalize tRowF f y 8 = q at l1 l2 hz hr ⊢
      refine aw_iload (q := 10) dX5_rowFor_8 rfl rfl ?_
      refine aw_bipush (v := 8) (q := 12) dX5_rowFor_10 rfl rfl ?_
      refine aw_icmp_ge (tgt := 78) (q := 15) dX5_rowFor_12 (by decide) rfl (fun _ => ?_) (fun hZ => absurd (nI_le (a := 8) (by omega) (by omega)) hZ)
      refine aw_iload_n (i := 2) (q := 79) dX5_rowFor_78 rfl rfl rfl ?_
      refine aw_if_lt (tgt := 86) (q := 82) dX5_rowFor_79 (by decide) rfl (fun hc => ?_) (fun hc => ?_)
      · refine aw_iload_n (i := 3) (q := 87) dX5_rowFor_86 rfl rfl rfl ?_
        exact aw_ireturn dX5_rowFor_87 rfl (by first | rfl | exact zB_nar _) (by refine ⟨?_, rfl⟩; rw [hr, hz.mp hc])
      · refine aw_iload_n (i := 2) (q := 83) dX5_rowFor_82 rfl rfl rfl ?_
        refine aw_goto (tgt := 87) dX5_rowFor_83 (by decide) ?_
        exact aw_ireturn dX5_rowFor_87 rfl (by first | rfl | exact zB_nar _) (by refine ⟨?_, rfl⟩; (rw [hr]; cases hq : q.1 with | none => exact absurd (hz.mpr hq) hc | some j => rfl))
    | succ n ih =>
      intro e he
      obtain ⟨l1, l2⟩ := tRowF_lt f y e
      have hz := zNo_lt (r := (tRowF f y e).1) (fun j hj => by have := l1 j hj; omega)
      have second : AW G 1 MX5_rowFor (zPure (.int (nI (tRow f y))) μ) 0 0 49 [(0, .ref a), (1, .int y), (2, .int (zNo (tRowF f y (e + 1)).1)), (3, .int (nI (tRowF f y e).2)), (4, .int (nI e))] [] μ := by
        first | refine aw_aload_n (i := 0) (q := 50) dX5_rowFor_49 rfl rfl rfl ?_ | refine aw_aloadN_n (i := 0) (q := 50) dX5_rowFor_49 rfl rfl rfl ?_ | refine aw_aloadQ_n (i := 0) (q := 50) dX5_rowFor_49 rfl rfl rfl ?_
        refine aw_getfield (q := 53) dX5_rowFor_50 gf_X5_18_5 (by assumption) rfl rfl ?_
        refine aw_iload (q := 55) dX5_rowFor_53 rfl rfl ?_
        refine aw_iald (q := 56) (v := f e) (e) dX5_rowFor_55 (by assumption) (by first | assumption | (simp only [← nI_add, ← pk_mul]; rfl) | rfl) (by omega) (by omega) (rfl) rfl ?_
        first | refine aw_aload_n (i := 0) (q := 57) dX5_rowFor_56 rfl rfl rfl ?_ | refine aw_aloadN_n (i := 0) (q := 57) dX5_rowFor_56 rfl rfl rfl ?_ | refine aw_aloadQ_n (i := 0) (q := 57) dX5_rowFor_56 rfl rfl rfl ?_
        refine aw_getfield (q := 60) dX5_rowFor_57 gf_X5_18_5 (by assumption) rfl rfl ?_
        refine aw_iload_n (i := 3) (q := 61) dX5_rowFor_60 rfl rfl rfl ?_
        refine aw_iald (q := 62) (v := f (tRowF f y e).2) ((tRowF f y e).2) dX5_rowFor_61 (by assumption) (by first | assumption | (simp only [← nI_add, ← pk_mul]; rfl) | rfl) (by omega) (by omega) (rfl) rfl ?_
        refine aw_icmp_le (tgt := 70) (q := 65) dX5_rowFor_62 (by decide) rfl (fun hb => ?_) (fun hb => ?_)
        · refine aw_iload_n (i := 3) (q := 71) dX5_rowFor_70 rfl rfl rfl ?_
          refine aw_istore_n (i := 3) (q := 72) dX5_rowFor_71 rfl (by decide) rfl ?_
          refine aw_iinc (q := 75) dX5_rowFor_72 rfl (by first | exact nI_1 _ | rfl) (by decide) rfl ?_
          refine aw_goto (tgt := 8) dX5_rowFor_75 (by decide) ?_
          exact AW.bud (aw_locals (by exact ⟨rfl, rfl, rfl, by rw [show (tRowF f y (e + 1)).2 = (tRowF f y e).2 from if_neg (Int32.not_lt.mpr hb)]; rfl, rfl, trivial⟩) (ih (e + 1) (by omega))) (by omega) (by omega)
        · refine aw_iload (q := 67) dX5_rowFor_65 rfl rfl ?_
          refine aw_goto (tgt := 71) dX5_rowFor_67 (by decide) ?_
          refine aw_istore_n (i := 3) (q := 72) dX5_rowFor_71 rfl (by decide) rfl ?_
          refine aw_iinc (q := 75) dX5_rowFor_72 rfl (by first | exact nI_1 _ | rfl) (by decide) rfl ?_
          refine aw_goto (tgt := 8) dX5_rowFor_75 (by decide) ?_
          exact AW.bud (aw_locals (by exact ⟨rfl, rfl, rfl, by rw [show (tRowF f y (e + 1)).2 = e from if_pos (Int32.not_le.mp hb)]; rfl, rfl, trivial⟩) (ih (e + 1) (by omega))) (by omega) (by omega)
      have hno : ¬ (y ≤ f e ∧ zLessR f (tRowF f y e).1 e = true) → (tRowF f y (e + 1)).1 = (tRowF f y e).1 := fun h => if_neg h
      have hyes : (y ≤ f e ∧ zLessR f (tRowF f y e).1 e = true) → (tRowF f y (e + 1)).1 = some e := fun h => if_pos h
      refine aw_iload (q := 10) dX5_rowFor_8 rfl rfl ?_
      refine aw_bipush (v := 8) (q := 12) dX5_rowFor_10 rfl rfl ?_
      refine aw_icmp_ge (tgt := 78) (q := 15) dX5_rowFor_12 (by decide) rfl (fun hZ => absurd hZ (nI_ge (a := e) (b := 8) (by omega) (by omega))) (fun _ => ?_)
      first | refine aw_aload_n (i := 0) (q := 16) dX5_rowFor_15 rfl rfl rfl ?_ | refine aw_aloadN_n (i := 0) (q := 16) dX5_rowFor_15 rfl rfl rfl ?_ | refine aw_aloadQ_n (i := 0) (q := 16) dX5_rowFor_15 rfl rfl rfl ?_
      refine aw_getfield (q := 19) dX5_rowFor_16 gf_X5_18_5 (by assumption) rfl rfl ?_
      refine aw_iload (q := 21) dX5_rowFor_19 rfl rfl ?_
      refine aw_iald (q := 22) (v := f e) (e) dX5_rowFor_21 (by assumption) (by first | assumption | (simp only [← nI_add, ← pk_mul]; rfl) | rfl) (by omega) (by omega) (rfl) rfl ?_
      refine aw_iload_n (i := 1) (q := 23) dX5_rowFor_22 rfl rfl rfl ?_
      refine aw_icmp_lt (tgt := 49) (q := 26) dX5_rowFor_23 (by decide) rfl (fun ha1 => ?_) (fun ha1 => ?_)
      · skip
        exact AW.bud (aw_locals (by exact ⟨rfl, rfl, by rw [hno (fun h => absurd ha1 (Int32.not_lt.mpr h.1))]; rfl, rfl, rfl, trivial⟩) (second)) (by omega) (by omega)
      · refine aw_iload_n (i := 2) (q := 27) dX5_rowFor_26 rfl rfl rfl ?_
        have hy := Int32.not_lt.mp ha1
        cases hq : (tRowF f y e).1 with
        | none =>
          refine aw_if_lt (tgt := 46) (q := 30) dX5_rowFor_27 (by decide) rfl (fun _ => ?_) (fun hZ => absurd ((show zNo none < 0 by decide)) hZ)
          refine aw_iload (q := 48) dX5_rowFor_46 rfl rfl ?_
          refine aw_istore_n (i := 2) (q := 49) dX5_rowFor_48 rfl (by decide) rfl ?_
          exact AW.bud (aw_locals (by exact ⟨rfl, rfl, by rw [hyes ⟨hy, by rw [hq]; rfl⟩]; rfl, rfl, rfl, trivial⟩) (second)) (by omega) (by omega)
        | some j =>
          have hj := l1 j hq
          refine aw_if_lt (tgt := 46) (q := 30) dX5_rowFor_27 (by decide) rfl (fun hZ => absurd hZ ((nI_pos (n := j) (by omega)))) (fun _ => ?_)
          first | refine aw_aload_n (i := 0) (q := 31) dX5_rowFor_30 rfl rfl rfl ?_ | refine aw_aloadN_n (i := 0) (q := 31) dX5_rowFor_30 rfl rfl rfl ?_ | refine aw_aloadQ_n (i := 0) (q := 31) dX5_rowFor_30 rfl rfl rfl ?_
          refine aw_getfield (q := 34) dX5_rowFor_31 gf_X5_18_5 (by assumption) rfl rfl ?_
          refine aw_iload (q := 36) dX5_rowFor_34 rfl rfl ?_
          refine aw_iald (q := 37) (v := f e) (e) dX5_rowFor_36 (by assumption) (by first | assumption | (simp only [← nI_add, ← pk_mul]; rfl) | rfl) (by omega) (by omega) (rfl) rfl ?_
          first | refine aw_aload_n (i := 0) (q := 38) dX5_rowFor_37 rfl rfl rfl ?_ | refine aw_aloadN_n (i := 0) (q := 38) dX5_rowFor_37 rfl rfl rfl ?_ | refine aw_aloadQ_n (i := 0) (q := 38) dX5_rowFor_37 rfl rfl rfl ?_
          refine aw_getfield (q := 41) dX5_rowFor_38 gf_X5_18_5 (by assumption) rfl rfl ?_
          refine aw_iload_n (i := 2) (q := 42) dX5_rowFor_41 rfl rfl rfl ?_
          refine aw_iald (q := 43) (v := f j) (j) dX5_rowFor_42 (by assumption) (by first | assumption | (simp only [← nI_add, ← pk_mul]; rfl) | rfl) (by omega) (by omega) (rfl) rfl ?_
          refine aw_icmp_ge (tgt := 49) (q := 46) dX5_rowFor_43 (by decide) rfl (fun hb => ?_) (fun hb => ?_)
          · skip
            exact AW.bud (aw_locals (by exact ⟨rfl, rfl, by rw [hno (fun h => by (have h2 := h.2; rw [hq] at h2; exact absurd (of_decide_eq_true h2) (Int32.not_lt.mpr hb))), hq]; rfl, rfl, rfl, trivial⟩) (second)) (by omega) (by omega)
          · refine aw_iload (q := 48) dX5_rowFor_46 rfl rfl ?_
            refine aw_istore_n (i := 2) (q := 49) dX5_rowFor_48 rfl (by decide) rfl ?_
            exact AW.bud (aw_locals (by exact ⟨rfl, rfl, by rw [hyes ⟨hy, by rw [hq]; exact decide_eq_true (Int32.not_le.mp hb)⟩]; rfl, rfl, rfl, trivial⟩) (second)) (by omega) (by omega)
  exact AW.bud (aw_locals (by exact ⟨rfl, rfl, rfl, rfl, rfl, trivial⟩) (loop 8 0 (by omega))) (by omega) (by omega)
/-- seats are given: what is free, what the booking has by rows -/
theorem C_Show_seat {a t fr b l : Nat} {u uf ub : zT} {k st la wo mo : Int32} {f g : Nat → Int32} {φ : Nat → Nat} (ha : μ a = some (u, oSh k t st la wo mo fr)) (hf : μ fr = some (uf, aI G 8 f)) (hb : μ b = some (ub, aI G 8 g)) (huf : uf ≠ zC) (hub : ub ≠ zC) (hne : uf ≠ ub) (hok : tSeatOk f φ l) : Meets G 2 MX5_seat [.ref a, .ref b, .int (nI l)] μ (fun v μ' => v = none ∧ μ' fr = some (uf, aI G 8 (tSeatN 41 f g (nI l)).1) ∧ μ' b = some (ub, aI G 8 (tSeatN 41 f g (nI l)).2) ∧ zKp (fun c _ => c = fr ∨ c = b) μ μ') 0 0 := by
  generalize hX : tSeatN 41 f g (nI l) = X
  refine meets_of (by decide +kernel) (Nat.le_of_ble_eq_true rfl) ?_
  refine aw_iload_n (i := 2) (q := 1) dX5_seat_0 rfl rfl rfl ?_
  refine aw_istore_n (i := 3) (q := 2) dX5_seat_1 rfl (by decide) rfl ?_
  have loop : ∀ n l, l < n → ∀ (μ1 : zM) (f g : Nat → Int32) (φ : Nat → Nat), tSeatOk f φ l → tSeatN n f g (nI l) = X → μ1 a = some (u, oSh k t st la wo mo fr) → μ1 fr = some (uf, aI G 8 f) → μ1 b = some (ub, aI G 8 g) → zKp (fun c _ => c = fr ∨ c = b) μ μ1 → AW G 2 MX5_seat (fun v μ' => v = none ∧ μ' fr = some (uf, aI G 8 X.1) ∧ μ' b = some (ub, aI G 8 X.2) ∧ zKp (fun c _ => c = fr ∨ c = b) μ μ') 0 0 2 [(0, .ref a), (1, .ref b), (3, .int (nI l))] [] μ1 := by
    intro n
    induction n with
    | zero => intro l hl; omega
    | succ n ih =>
      intro l hl μ1 f g φ hok hn ha hf hb hk
      have nfa : a ≠ fr := zneq ha hf (by simp)
      have nba : a ≠ b := zneq ha hb (by simp)
      have nfb : fr ≠ b := zneq hf hb (by simp [hne])
      have hl40 := hok.2.1
      by_cases h0 : l = 0
      · subst h0
        have eX : X = (f, g) := by rw [← hn]; rfl
        rw [eX]
        refine aw_iload_n (i := 3) (q := 3) dX5_seat_2 rfl rfl rfl ?_
        refine aw_if_le (tgt := 55) (q := 6) dX5_seat_3 (by decide) rfl (fun _ => ?_) (fun hZ => absurd ((by decide : (0 : Int32) ≤ 0)) hZ)
        exact aw_return dX5_seat_55 rfl (⟨rfl, hf, hb, hk⟩)
      · obtain ⟨k', k1, k2, k3, k4, k5, hok2⟩ := hok.step (by omega)
        have hrow := tRow_lt f (nI l)
        have hn2 : tSeatN n (upd f (tRow f (nI l)) (f (tRow f (nI l)) - nI k')) (upd g (tRow f (nI l)) (g (tRow f (nI l)) + nI k')) (nI (l - k')) = X := by
          rw [← hn]
          conv => rhs; unfold tSeatN
          rw [if_neg (nI_nle (by omega) (by omega)), k4, pk_sub k2]
        refine aw_iload_n (i := 3) (q := 3) dX5_seat_2 rfl rfl rfl ?_
        refine aw_if_le (tgt := 55) (q := 6) dX5_seat_3 (by decide) rfl (fun hZ => absurd hZ (nI_nle (by omega) (by omega))) (fun _ => ?_)
        first | refine aw_aload_n (i := 0) (q := 7) dX5_seat_6 rfl rfl rfl ?_ | refine aw_aloadN_n (i := 0) (q := 7) dX5_seat_6 rfl rfl rfl ?_ | refine aw_aloadQ_n (i := 0) (q := 7) dX5_seat_6 rfl rfl rfl ?_
        refine aw_iload_n (i := 3) (q := 8) dX5_seat_7 rfl rfl rfl ?_
        refine aw_callV (q := 11) dX5_seat_8 (C_Show_rowFor ha hf) cv_X5_44_5 (by assumption) rfl rfl (by decide) (by decide) (by first | exact Nat.le_of_ble_eq_true rfl | simp [zcat_rf, Value.category]) rfl (zpk ?_)
        refine aw_istore (q := 13) dX5_seat_11 (by decide) rfl ?_
        refine aw_iload_n (i := 3) (q := 14) dX5_seat_13 rfl rfl rfl ?_
        first | refine aw_aload_n (i := 0) (q := 15) dX5_seat_14 rfl rfl rfl ?_ | refine aw_aloadN_n (i := 0) (q := 15) dX5_seat_14 rfl rfl rfl ?_ | refine aw_aloadQ_n (i := 0) (q := 15) dX5_seat_14 rfl rfl rfl ?_
        refine aw_getfield (q := 18) dX5_seat_15 gf_X5_18_5 (by assumption) rfl rfl ?_
        refine aw_iload (q := 20) dX5_seat_18 rfl rfl ?_
        refine aw_iald (q := 21) (v := f (tRow f (nI l))) (tRow f (nI l)) dX5_seat_20 hf (by first | assumption | (simp only [← nI_add, ← pk_mul]; rfl) | rfl) (by omega) (by omega) (rfl) rfl ?_
        refine aw_min (q := 24) dX5_seat_21 mi_X5_48 (by decide) (by first | exact Nat.le_of_ble_eq_true rfl | simp [zcat_rf, Value.category]) rfl ?_
        refine aw_istore (q := 26) dX5_seat_24 (by decide) rfl ?_
        first | refine aw_aload_n (i := 0) (q := 27) dX5_seat_26 rfl rfl rfl ?_ | refine aw_aloadN_n (i := 0) (q := 27) dX5_seat_26 rfl rfl rfl ?_ | refine aw_aloadQ_n (i := 0) (q := 27) dX5_seat_26 rfl rfl rfl ?_
        refine aw_getfield (q := 30) dX5_seat_27 gf_X5_18_5 (by assumption) rfl rfl ?_
        refine aw_iload (q := 32) dX5_seat_30 rfl rfl ?_
        refine aw_dup2 (q := 33) dX5_seat_32 (by first | rfl | exact zcat_rf _) (by first | rfl | exact zcat_rf _) rfl ?_
        rw [show (if f (tRow f (nI l)) < nI l then f (tRow f (nI l)) else nI l) = nI k' from k4]
        refine aw_iald (q := 34) (v := f (tRow f (nI l))) (tRow f (nI l)) dX5_seat_33 hf (by first | assumption | (simp only [← nI_add, ← pk_mul]; rfl) | rfl) (by omega) (by omega) (rfl) rfl ?_
        refine aw_iload (q := 36) dX5_seat_34 rfl rfl ?_
        refine aw_isub (q := 37) dX5_seat_36 rfl ?_
        refine aw_iast (q := 38) (tRow f (nI l)) dX5_seat_37 hf (by first | assumption | simp) (by first | assumption | (simp only [← nI_add, ← pk_mul]; rfl) | rfl) (by omega) (by omega) rfl (fun μ2 hg_μ2 => ?_)
        have ha : μ2 _ = some _ := hg_μ2 ▸ (updM_ne nfa).trans ha
        have hb : μ2 _ = some _ := hg_μ2 ▸ (updM_ne (Ne.symm nfb)).trans hb
        have hf : μ2 _ = some _ := hg_μ2 ▸ updM_eq _ _ _
        first | refine aw_aload_n (i := 1) (q := 39) dX5_seat_38 rfl rfl rfl ?_ | refine aw_aloadN_n (i := 1) (q := 39) dX5_seat_38 rfl rfl rfl ?_ | refine aw_aloadQ_n (i := 1) (q := 39) dX5_seat_38 rfl rfl rfl ?_
        refine aw_iload (q := 41) dX5_seat_39 rfl rfl ?_
        refine aw_dup2 (q := 42) dX5_seat_41 (by first | rfl | exact zcat_rf _) (by first | rfl | exact zcat_rf _) rfl ?_
        refine aw_iald (q := 43) (v := g (tRow f (nI l))) (tRow f (nI l)) dX5_seat_42 hb (by first | assumption | (simp only [← nI_add, ← pk_mul]; rfl) | rfl) (by omega) (by omega) (rfl) rfl ?_
        refine aw_iload (q := 45) dX5_seat_43 rfl rfl ?_
        refine aw_iadd (q := 46) dX5_seat_45 rfl ?_
        refine aw_iast (q := 47) (tRow f (nI l)) dX5_seat_46 hb (by first | assumption | simp) (by first | assumption | (simp only [← nI_add, ← pk_mul]; rfl) | rfl) (by omega) (by omega) rfl (fun μ3 hg_μ3 => ?_)
        have ha : μ3 _ = some _ := hg_μ3 ▸ (updM_ne nba).trans ha
        have hf : μ3 _ = some _ := hg_μ3 ▸ (updM_ne nfb).trans hf
        have hb : μ3 _ = some _ := hg_μ3 ▸ updM_eq _ _ _
        refine aw_iload_n (i := 3) (q := 48) dX5_seat_47 rfl rfl rfl ?_
        refine aw_iload (q := 50) dX5_seat_48 rfl rfl ?_
        refine aw_isub (q := 51) dX5_seat_50 rfl ?_
        refine aw_istore_n (i := 3) (q := 52) dX5_seat_51 rfl (by decide) rfl ?_
        refine aw_goto (tgt := 2) dX5_seat_52 (by decide) ?_
        rw [pk_sub k2]
        have hkk : zKp (fun c _ => c = fr ∨ c = b) μ μ3 := (hk.tr (hg_μ2 ▸ zKp.up.mono (fun _ _ q => Or.inl q))).tr (hg_μ3 ▸ zKp.up.mono (fun _ _ q => Or.inr q))
        exact AW.bud (aw_locals (by exact ⟨rfl, rfl, rfl, trivial⟩) (ih (l - k') (by omega) μ3 _ _ _ (by rw [k4] at hok2; exact hok2) hn2 ha hf hb hkk)) (by omega) (by omega)
  exact AW.bud (aw_locals (by exact ⟨rfl, rfl, rfl, trivial⟩) (loop 41 l (by have := hok.2.1; omega) μ f g φ hok hX ha hf hb zKp.rf)) (by omega) (by omega)
end ZLF2
