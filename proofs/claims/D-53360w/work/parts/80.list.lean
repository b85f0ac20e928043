/-! ArrayList and its iterator; Objects.checkIndex; Integer; Optional -/
set_option maxRecDepth 100000
abbrev oAL (mc : Int32) (ed n : Nat) : va_E := .inr (14, [.int mc, .ref ed, .int (nI n)])
abbrev oItr (k : Nat) (lr mc : Int32) (a : Nat) : va_E := .inr (11, [.int (nI k), .int lr, .int mc, .ref a])
/-- an object -/
def zOb (μ : zM) (x : Nat) : Prop := ∃ (t : zT) (ci : Nat) (fs : List Value), μ x = some (t, .inr (ci, fs)) ∧ zCast ci "java/lang/Object"
/-- an array of references that begins with f 0 .. f (n - 1) -/
def zArr (G : zG) (μ : zM) (ta : zT) (ed n : Nat) (f : Nat → Nat) : Prop := (n = 0 ∧ ed = G.2.2.2 0) ∨ ∃ (cap : Nat) (g : Nat → Option Nat), μ ed = some (ta, aO G cap g) ∧ n ≤ cap ∧ 1 ≤ cap ∧ cap < 2 ^ 20 ∧ ∀ i, i < n → g i = some (f i)
/-- the list at a: n elements, f -/
def zAL (G : zG) (μ : zM) (t ta : zT) (a : Nat) (mc : Int32) (n : Nat) (f : Nat → Nat) : Prop := ∃ ed, μ a = some (t, oAL mc ed n) ∧ zArr G μ ta ed n f
abbrev zTg (t ta : zT) : Nat → zT → Prop := fun _ u => u = t ∨ u = ta
theorem zOb.kp {T : Nat → zT → Prop} {μ μ' : zM} {x : Nat} (h : zOb μ x) (hk : zKp T μ μ') (hn : ∀ t, μ x = some t → ¬ T x t.1) : zOb μ' x := by
  obtain ⟨t, ci, fs, h1, h2⟩ := h
  exact ⟨t, ci, fs, hk _ _ _ h1 (hn _ h1), h2⟩
theorem zAL.kp {G : zG} {T : Nat → zT → Prop} {μ μ' : zM} {t ta : zT} {a n : Nat} {mc : Int32} {f : Nat → Nat} (h : zAL G μ t ta a mc n f) (hk : zKp T μ μ') (h1 : ∀ b, ¬ T b t) (h2 : ∀ b, ¬ T b ta) : zAL G μ' t ta a mc n f := by
  obtain ⟨ed, q1, q2⟩ := h
  refine ⟨ed, hk _ _ _ q1 (h1 _), ?_⟩
  rcases q2 with q | ⟨cap, g, g1, g2⟩
  · exact Or.inl q
  · exact Or.inr ⟨cap, g, hk _ _ _ g1 (h2 _), g2⟩
theorem zAL.congr {G : zG} {μ : zM} {t ta : zT} {a n : Nat} {mc : Int32} {f f' : Nat → Nat} (h : zAL G μ t ta a mc n f) (e : ∀ i, i < n → f' i = f i) : zAL G μ t ta a mc n f' := by
  obtain ⟨ed, q1, q2⟩ := h
  refine ⟨ed, q1, ?_⟩
  rcases q2 with q | ⟨cap, g, g1, g2, g3, g4, g5⟩
  · exact Or.inl q
  · exact Or.inr ⟨cap, g, g1, g2, g3, g4, fun i hi => by rw [g5 i hi, e i hi]⟩
theorem zOb.new {μ : zM} {x b : Nat} {e : zT × va_E} (h : zOb μ x) (hb : μ b = none) : zOb (updM μ b e) x := by
  obtain ⟨t, ci, fs, h1, h2⟩ := h
  exact ⟨t, ci, fs, (updM_ne (zneN h1 hb)).trans h1, h2⟩
theorem zOb.put {μ : zM} {x a ci : Nat} {t : zT} {fs : List Value} (h : zOb μ x) (hc : zCast ci "java/lang/Object") : zOb (updM μ a (t, .inr (ci, fs))) x := by
  by_cases e : x = a
  · subst e; exact ⟨t, ci, fs, updM_eq _ _ _, hc⟩
  · obtain ⟨t', ci', fs', h1, h2⟩ := h
    exact ⟨t', ci', fs', (updM_ne e).trans h1, h2⟩
theorem zOb.arr {μ : zM} {x b : Nat} {t t' : zT} {e e' : ClassId × vp_A} (h : zOb μ x) (hb : μ b = some (t, .inl e)) : zOb (updM μ b (t', .inl e')) x := by
  obtain ⟨tx, ci, fs, h1, h2⟩ := h
  exact ⟨tx, ci, fs, (updM_ne (zneq h1 hb (by simp))).trans h1, h2⟩
section ZAL
variable {G : zG} {μ : zM}
theorem C_checkIndex0 {k n : Nat} (h : k < n) (hn : n < 2 ^ 31) : Meets G 1 MJ10_checkIndex [.int (nI k), .int (nI n), .null] μ (zPure (.int (nI k)) μ) 0 0 := by
  refine meets_of (by decide +kernel) (Nat.le_of_ble_eq_true rfl) ?_
  refine aw_iload_n (i := 0) (q := 1) dJ10_checkIndex_0 rfl rfl rfl ?_
  refine aw_if_lt (tgt := 9) (q := 4) dJ10_checkIndex_1 (by decide) rfl (fun hZ => absurd hZ (nI_pos (by omega))) (fun _ => ?_)
  refine aw_iload_n (i := 0) (q := 5) dJ10_checkIndex_4 rfl rfl rfl ?_
  refine aw_iload_n (i := 1) (q := 6) dJ10_checkIndex_5 rfl rfl rfl ?_
  refine aw_icmp_lt (tgt := 16) (q := 9) dJ10_checkIndex_6 (by decide) rfl (fun _ => ?_) (fun hZ => absurd (nI_lt h hn) hZ)
  refine aw_iload_n (i := 0) (q := 17) dJ10_checkIndex_16 rfl rfl rfl ?_
  exact aw_ireturn dJ10_checkIndex_17 rfl (by first | rfl | exact zB_nar _) (⟨rfl, rfl⟩)
theorem C_checkIndex {k n : Nat} (h : k < n) (hn : n < 2 ^ 31) : Meets G 2 MJ9_checkIndex [.int (nI k), .int (nI n)] μ (zPure (.int (nI k)) μ) 0 0 := by
  refine meets_of (by decide +kernel) (Nat.le_of_ble_eq_true rfl) ?_
  refine aw_iload_n (i := 0) (q := 1) dJ9_checkIndex_0 rfl rfl rfl ?_
  refine aw_iload_n (i := 1) (q := 2) dJ9_checkIndex_1 rfl rfl rfl ?_
  refine aw_null (q := 3) dJ9_checkIndex_2 rfl ?_
  refine aw_callS (q := 6) dJ9_checkIndex_3 (C_checkIndex0 h hn) cs_J9_105 rfl rfl (by decide) (by decide) (by first | exact Nat.le_of_ble_eq_true rfl | simp [zcat_rf, Value.category]) rfl (zpk ?_)
  exact aw_ireturn dJ9_checkIndex_6 rfl (by first | rfl | exact zB_nar _) (⟨rfl, rfl⟩)
theorem C_J0_init {a : Nat} : Meets G 2 MJ0_init [.ref a] μ (zVoid μ) 0 0 := by
  refine meets_of (by decide +kernel) (Nat.le_of_ble_eq_true rfl) ?_
  first | refine aw_aload_n (i := 0) (q := 1) dJ0_init_0 rfl rfl rfl ?_ | refine aw_aloadN_n (i := 0) (q := 1) dJ0_init_0 rfl rfl rfl ?_ | refine aw_aloadQ_n (i := 0) (q := 1) dJ0_init_0 rfl rfl rfl ?_
  refine aw_objInit (q := 4) dJ0_init_1 oi_J0_1 (by decide) (by first | exact Nat.le_of_ble_eq_true rfl | simp [zcat_rf, Value.category]) rfl ?_
  exact aw_return dJ0_init_4 rfl (⟨rfl, rfl⟩)
theorem C_J1_init {a : Nat} {t : zT} {x : Int32} {y z : Value} (ha : μ a = some (t, .inr (14, [.int x, y, z]))) (ht : t ≠ zC) : Meets G 3 MJ1_init [.ref a] μ (fun v μ' => v = none ∧ μ' = updM μ a (t, .inr (14, [.int 0, y, z]))) 0 0 := by
  refine meets_of (by decide +kernel) (Nat.le_of_ble_eq_true rfl) ?_
  first | refine aw_aload_n (i := 0) (q := 1) dJ1_init_0 rfl rfl rfl ?_ | refine aw_aloadN_n (i := 0) (q := 1) dJ1_init_0 rfl rfl rfl ?_ | refine aw_aloadQ_n (i := 0) (q := 1) dJ1_init_0 rfl rfl rfl ?_
  refine aw_callI (q := 4) dJ1_init_1 (C_J0_init) ci_J1_1 rfl rfl (by decide) (by decide) (by first | exact Nat.le_of_ble_eq_true rfl | simp [zcat_rf, Value.category]) rfl (zpv ?_)
  first | refine aw_aload_n (i := 0) (q := 5) dJ1_init_4 rfl rfl rfl ?_ | refine aw_aloadN_n (i := 0) (q := 5) dJ1_init_4 rfl rfl rfl ?_ | refine aw_aloadQ_n (i := 0) (q := 5) dJ1_init_4 rfl rfl rfl ?_
  refine aw_iconst (v := 0) (q := 6) dJ1_init_5 rfl rfl ?_
  refine aw_putfield (q := 9) dJ1_init_6 gf_J1_7_14 ha (by first | assumption | simp) (by first | rfl | exact znar_rf _ _) (by first | rfl | exact zfit_rf _ _) (Nat.le_of_ble_eq_true rfl) rfl (fun μ1 hg_μ1 => ?_)
  have ha : μ1 _ = some _ := hg_μ1 ▸ updM_eq _ _ _
  simp only [List.set] at ha hg_μ1
  exact aw_return dJ1_init_9 rfl (⟨rfl, hg_μ1⟩)
theorem C_AL_init {a : Nat} {t : zT} {x : Int32} {y z : Value} (ha : μ a = some (t, .inr (14, [.int x, y, z]))) (ht : t ≠ zC) : Meets G 4 MJ2_init [.ref a] μ (fun v μ' => v = none ∧ μ' = updM μ a (t, .inr (14, [.int 0, .ref (G.2.2.2 0), z]))) 0 0 := by
  refine meets_of (by decide +kernel) (Nat.le_of_ble_eq_true rfl) ?_
  first | refine aw_aload_n (i := 0) (q := 1) dJ2_init_0 rfl rfl rfl ?_ | refine aw_aloadN_n (i := 0) (q := 1) dJ2_init_0 rfl rfl rfl ?_ | refine aw_aloadQ_n (i := 0) (q := 1) dJ2_init_0 rfl rfl rfl ?_
  refine aw_callI (q := 4) dJ2_init_1 (C_J1_init ha ht) ci_J2_1 rfl rfl (by decide) (by decide) (by first | exact Nat.le_of_ble_eq_true rfl | simp [zcat_rf, Value.category]) rfl (fun v1 μ1 hp => ?_)
  obtain ⟨rfl, hg⟩ := hp
  have ha : μ1 a = _ := hg ▸ updM_eq _ _ _
  first | refine aw_aload_n (i := 0) (q := 5) dJ2_init_4 rfl rfl rfl ?_ | refine aw_aloadN_n (i := 0) (q := 5) dJ2_init_4 rfl rfl rfl ?_ | refine aw_aloadQ_n (i := 0) (q := 5) dJ2_init_4 rfl rfl rfl ?_
  refine aw_getstatic (v := .ref (G.2.2.2 0)) (q := 8) dJ2_init_5 gs_J2_39 (by simp [zStL]) rfl ?_
  refine aw_putfield (q := 11) dJ2_init_8 gf_J2_9_14 ha (by first | assumption | simp) (by first | rfl | exact znar_rf _ _) (by first | rfl | exact zfit_rf _ _) (Nat.le_of_ble_eq_true rfl) rfl (fun μ2 hg_μ2 => ?_)
  have ha : μ2 _ = some _ := hg_μ2 ▸ updM_eq _ _ _
  simp only [List.set] at ha hg_μ2
  exact aw_return dJ2_init_11 rfl (by refine ⟨rfl, ?_⟩; rw [hg_μ2, hg, updM_twice])
theorem C_AL_size {t ta : zT} {a n : Nat} {mc : Int32} {f : Nat → Nat} (h : zAL G μ t ta a mc n f) : Meets G 1 MJ2_size [.ref a] μ (zPure (.int (nI n)) μ) 0 0 := by
  obtain ⟨ed, ha, -⟩ := h
  refine meets_of (by decide +kernel) (Nat.le_of_ble_eq_true rfl) ?_
  first | refine aw_aload_n (i := 0) (q := 1) dJ2_size_0 rfl rfl rfl ?_ | refine aw_aloadN_n (i := 0) (q := 1) dJ2_size_0 rfl rfl rfl ?_ | refine aw_aloadQ_n (i := 0) (q := 1) dJ2_size_0 rfl rfl rfl ?_
  refine aw_getfield (q := 4) dJ2_size_1 gf_J2_48_14 (by assumption) rfl rfl ?_
  exact aw_ireturn dJ2_size_4 rfl (by first | rfl | exact zB_nar _) (⟨rfl, rfl⟩)
theorem C_AL_isEmpty {t ta : zT} {a n : Nat} {mc : Int32} {f : Nat → Nat} (h : zAL G μ t ta a mc n f) : Meets G 1 MJ2_isEmpty [.ref a] μ (zPure (.int (zB (nI n = 0))) μ) 0 0 := by
  obtain ⟨ed, ha, -⟩ := h
  refine meets_of (by decide +kernel) (Nat.le_of_ble_eq_true rfl) ?_
  first | refine aw_aload_n (i := 0) (q := 1) dJ2_isEmpty_0 rfl rfl rfl ?_ | refine aw_aloadN_n (i := 0) (q := 1) dJ2_isEmpty_0 rfl rfl rfl ?_ | refine aw_aloadQ_n (i := 0) (q := 1) dJ2_isEmpty_0 rfl rfl rfl ?_
  refine aw_getfield (q := 4) dJ2_isEmpty_1 gf_J2_48_14 (by assumption) rfl rfl ?_
  refine aw_if_ne (tgt := 11) (q := 7) dJ2_isEmpty_4 (by decide) rfl (fun hc => ?_) (fun hc => ?_)
  · refine aw_iconst (v := 0) (q := 12) dJ2_isEmpty_11 rfl rfl ?_
    exact aw_ireturn dJ2_isEmpty_12 rfl (by first | rfl | exact zB_nar _) (by refine ⟨?_, rfl⟩; rw [zB_f hc])
  · refine aw_iconst (v := 1) (q := 8) dJ2_isEmpty_7 rfl rfl ?_
    refine aw_goto (tgt := 12) dJ2_isEmpty_8 (by decide) ?_
    exact aw_ireturn dJ2_isEmpty_12 rfl (by first | rfl | exact zB_nar _) (by refine ⟨?_, rfl⟩; rw [zB_t hc])
theorem C_AL_ed {t ta : zT} {a n k : Nat} {mc : Int32} {f : Nat → Nat} (h : zAL G μ t ta a mc n f) (hk : k < n) : Meets G 1 MJ2_elementData [.ref a, .int (nI k)] μ (zPure (.ref (f k)) μ) 0 0 := by
  obtain ⟨ed, ha, q | ⟨cap, g, hg, g2, g3, g4, g5⟩⟩ := h
  · omega
  · refine meets_of (by decide +kernel) (Nat.le_of_ble_eq_true rfl) ?_
    first | refine aw_aload_n (i := 0) (q := 1) dJ2_elementData_0 rfl rfl rfl ?_ | refine aw_aloadN_n (i := 0) (q := 1) dJ2_elementData_0 rfl rfl rfl ?_ | refine aw_aloadQ_n (i := 0) (q := 1) dJ2_elementData_0 rfl rfl rfl ?_
    refine aw_getfield (q := 4) dJ2_elementData_1 gf_J2_9_14 (by assumption) rfl rfl ?_
    refine aw_iload_n (i := 1) (q := 5) dJ2_elementData_4 rfl rfl rfl ?_
    first | refine aw_aaldO (q := 6) (v := some (f k)) (k) dJ2_elementData_5 (by assumption) (by first | assumption | (simp only [← nI_add, ← pk_mul]; rfl) | rfl) (by omega) (by omega) (g5 k hk) rfl ?_ | refine aw_aaldP (q := 6) (v := some (f k)) (k) dJ2_elementData_5 (by assumption) (by first | assumption | (simp only [← nI_add, ← pk_mul]; rfl) | rfl) (by omega) (by omega) (g5 k hk) rfl ?_ | refine aw_aaldN (q := 6) (v := some (f k)) (k) dJ2_elementData_5 (by assumption) (by first | assumption | (simp only [← nI_add, ← pk_mul]; rfl) | rfl) (by omega) (by omega) (g5 k hk) rfl ?_
    exact aw_areturnR dJ2_elementData_6 rfl (by first | exact Or.inl ⟨_, rfl⟩ | exact Or.inr ⟨_, rfl⟩) (⟨rfl, rfl⟩)
theorem C_AL_get {t ta : zT} {a n k : Nat} {mc : Int32} {f : Nat → Nat} (h : zAL G μ t ta a mc n f) (hk : k < n) (hn : n < 2 ^ 20) : Meets G 3 MJ2_get [.ref a, .int (nI k)] μ (zPure (.ref (f k)) μ) 0 0 := by
  have h0 := h
  obtain ⟨ed, ha, -⟩ := h0
  refine meets_of (by decide +kernel) (Nat.le_of_ble_eq_true rfl) ?_
  refine aw_iload_n (i := 1) (q := 1) dJ2_get_0 rfl rfl rfl ?_
  first | refine aw_aload_n (i := 0) (q := 2) dJ2_get_1 rfl rfl rfl ?_ | refine aw_aloadN_n (i := 0) (q := 2) dJ2_get_1 rfl rfl rfl ?_ | refine aw_aloadQ_n (i := 0) (q := 2) dJ2_get_1 rfl rfl rfl ?_
  refine aw_getfield (q := 5) dJ2_get_2 gf_J2_48_14 (by assumption) rfl rfl ?_
  refine aw_callS (q := 8) dJ2_get_5 (C_checkIndex hk (by omega)) cs_J2_118 rfl rfl (by decide) (by decide) (by first | exact Nat.le_of_ble_eq_true rfl | simp [zcat_rf, Value.category]) rfl (zpk ?_)
  refine aw_pop (q := 9) dJ2_get_8 (by first | rfl | exact zcat_rf _) rfl ?_
  first | refine aw_aload_n (i := 0) (q := 10) dJ2_get_9 rfl rfl rfl ?_ | refine aw_aloadN_n (i := 0) (q := 10) dJ2_get_9 rfl rfl rfl ?_ | refine aw_aloadQ_n (i := 0) (q := 10) dJ2_get_9 rfl rfl rfl ?_
  refine aw_iload_n (i := 1) (q := 11) dJ2_get_10 rfl rfl rfl ?_
  refine aw_callV (q := 14) dJ2_get_11 (C_AL_ed h hk) cv_J2_123_14 (by assumption) rfl rfl (by decide) (by decide) (by first | exact Nat.le_of_ble_eq_true rfl | simp [zcat_rf, Value.category]) rfl (zpk ?_)
  exact aw_areturnR dJ2_get_14 rfl (by first | exact Or.inl ⟨_, rfl⟩ | exact Or.inr ⟨_, rfl⟩) (⟨rfl, rfl⟩)
theorem C_Itr_init {it a ed n : Nat} {t u : zT} {mc x y : Int32} {z : Value} (hi : μ it = some (u, .inr (11, [.int 0, .int x, .int y, z]))) (hu : u ≠ zC) (ha : μ a = some (t, oAL mc ed n)) (hne : a ≠ it) : Meets G 2 MJ11_init [.ref it, .ref a] μ (fun v μ' => v = none ∧ μ' = updM μ it (u, oItr 0 (-1) mc a)) 0 0 := by
  refine meets_of (by decide +kernel) (Nat.le_of_ble_eq_true rfl) ?_
  first | refine aw_aload_n (i := 0) (q := 1) dJ11_init_0 rfl rfl rfl ?_ | refine aw_aloadN_n (i := 0) (q := 1) dJ11_init_0 rfl rfl rfl ?_ | refine aw_aloadQ_n (i := 0) (q := 1) dJ11_init_0 rfl rfl rfl ?_
  first | refine aw_aload_n (i := 1) (q := 2) dJ11_init_1 rfl rfl rfl ?_ | refine aw_aloadN_n (i := 1) (q := 2) dJ11_init_1 rfl rfl rfl ?_ | refine aw_aloadQ_n (i := 1) (q := 2) dJ11_init_1 rfl rfl rfl ?_
  refine aw_putF (q := 5) dJ11_init_2 pf_J11_1_11 rfl hi (by first | assumption | simp) rfl rfl (Nat.le_of_ble_eq_true rfl) rfl (fun μ1 hg_μ1 => ?_)
  have ha : μ1 _ = some _ := hg_μ1 ▸ (updM_ne hne).trans ha
  have hi : μ1 _ = some _ := hg_μ1 ▸ updM_eq _ _ _
  simp only [List.set] at hi hg_μ1
  first | refine aw_aload_n (i := 0) (q := 6) dJ11_init_5 rfl rfl rfl ?_ | refine aw_aloadN_n (i := 0) (q := 6) dJ11_init_5 rfl rfl rfl ?_ | refine aw_aloadQ_n (i := 0) (q := 6) dJ11_init_5 rfl rfl rfl ?_
  refine aw_objInit (q := 9) dJ11_init_6 oi_J11_7 (by decide) (by first | exact Nat.le_of_ble_eq_true rfl | simp [zcat_rf, Value.category]) rfl ?_
  first | refine aw_aload_n (i := 0) (q := 10) dJ11_init_9 rfl rfl rfl ?_ | refine aw_aloadN_n (i := 0) (q := 10) dJ11_init_9 rfl rfl rfl ?_ | refine aw_aloadQ_n (i := 0) (q := 10) dJ11_init_9 rfl rfl rfl ?_
  refine aw_iconst (v := (-1)) (q := 11) dJ11_init_10 rfl rfl ?_
  refine aw_putfield (q := 14) dJ11_init_11 gf_J11_13_11 hi (by first | assumption | simp) (by first | rfl | exact znar_rf _ _) (by first | rfl | exact zfit_rf _ _) (Nat.le_of_ble_eq_true rfl) rfl (fun μ2 hg_μ2 => ?_)
  have ha : μ2 _ = some _ := hg_μ2 ▸ (updM_ne hne).trans ha
  have hi : μ2 _ = some _ := hg_μ2 ▸ updM_eq _ _ _
  simp only [List.set] at hi hg_μ2
  first | refine aw_aload_n (i := 0) (q := 15) dJ11_init_14 rfl rfl rfl ?_ | refine aw_aloadN_n (i := 0) (q := 15) dJ11_init_14 rfl rfl rfl ?_ | refine aw_aloadQ_n (i := 0) (q := 15) dJ11_init_14 rfl rfl rfl ?_
  first | refine aw_aload_n (i := 0) (q := 16) dJ11_init_15 rfl rfl rfl ?_ | refine aw_aloadN_n (i := 0) (q := 16) dJ11_init_15 rfl rfl rfl ?_ | refine aw_aloadQ_n (i := 0) (q := 16) dJ11_init_15 rfl rfl rfl ?_
  refine aw_getfield (q := 19) dJ11_init_16 gf_J11_1_11 (by assumption) rfl rfl ?_
  refine aw_getfield (q := 22) dJ11_init_19 gf_J11_17_14 (by assumption) rfl rfl ?_
  refine aw_putfield (q := 25) dJ11_init_22 gf_J11_22_11 hi (by first | assumption | simp) (by first | rfl | exact znar_rf _ _) (by first | rfl | exact zfit_rf _ _) (Nat.le_of_ble_eq_true rfl) rfl (fun μ3 hg_μ3 => ?_)
  have ha : μ3 _ = some _ := hg_μ3 ▸ (updM_ne hne).trans ha
  have hi : μ3 _ = some _ := hg_μ3 ▸ updM_eq _ _ _
  simp only [List.set] at hi hg_μ3
  exact aw_return dJ11_init_25 rfl (by refine ⟨rfl, ?_⟩; rw [hg_μ3, hg_μ2, hg_μ1, updM_twice, updM_twice]; rfl)
theorem C_AL_iterator {t ta u : zT} {a n : Nat} {mc : Int32} {f : Nat → Nat} (h : zAL G μ t ta a mc n f) (hu : u ≠ zC) : Meets G 3 MJ2_iterator [.ref a] μ (fun v μ' => ∃ it, v = some (.ref it) ∧ μ it = none ∧ μ' = updM μ it (u, oItr 0 (-1) mc a)) 1 4 := by
  obtain ⟨ed, ha, -⟩ := h
  refine meets_of (by decide +kernel) (Nat.le_of_ble_eq_true rfl) ?_
  refine AW.sub (bc' := 1) (bs' := 4) (by omega) (by omega) ?_
  refine aw_new (q := 3) dJ2_iterator_0 nw_J2_267 u (by first | assumption | simp) rfl (fun it μ1 hn_it hg_μ1 => ?_)
  have ha : μ1 _ = some _ := hg_μ1 ▸ (updM_ne (zneN ha hn_it)).trans ha
  have h_it : μ1 it = some _ := hg_μ1 ▸ updM_eq _ _ _
  refine aw_dup (q := 4) dJ2_iterator_3 (by first | rfl | exact zcat_rf _) rfl ?_
  first | refine aw_aload_n (i := 0) (q := 5) dJ2_iterator_4 rfl rfl rfl ?_ | refine aw_aloadN_n (i := 0) (q := 5) dJ2_iterator_4 rfl rfl rfl ?_ | refine aw_aloadQ_n (i := 0) (q := 5) dJ2_iterator_4 rfl rfl rfl ?_
  refine aw_callI (q := 8) dJ2_iterator_5 (C_Itr_init h_it hu ha (zneN (by assumption) hn_it)) ci_J2_269 rfl rfl (by decide) (by decide) (by first | exact Nat.le_of_ble_eq_true rfl | simp [zcat_rf, Value.category]) rfl (fun v5 μ2 hp => ?_)
  obtain ⟨rfl, hg⟩ := hp
  exact aw_areturnR dJ2_iterator_8 rfl (by first | exact Or.inl ⟨_, rfl⟩ | exact Or.inr ⟨_, rfl⟩) (by exact ⟨it, rfl, hn_it, by rw [hg, hg_μ1, updM_twice]⟩)
theorem C_Itr_hasNext {t ta u : zT} {a n it k : Nat} {mc lr : Int32} {f : Nat → Nat} (h : zAL G μ t ta a mc n f) (hi : μ it = some (u, oItr k lr mc a)) : Meets G 1 MJ11_hasNext [.ref it] μ (zPure (.int (zB (¬ nI k = nI n))) μ) 0 0 := by
  obtain ⟨ed, ha, -⟩ := h
  refine meets_of (by decide +kernel) (Nat.le_of_ble_eq_true rfl) ?_
  first | refine aw_aload_n (i := 0) (q := 1) dJ11_hasNext_0 rfl rfl rfl ?_ | refine aw_aloadN_n (i := 0) (q := 1) dJ11_hasNext_0 rfl rfl rfl ?_ | refine aw_aloadQ_n (i := 0) (q := 1) dJ11_hasNext_0 rfl rfl rfl ?_
  refine aw_getfield (q := 4) dJ11_hasNext_1 gf_J11_25_11 (by assumption) rfl rfl ?_
  first | refine aw_aload_n (i := 0) (q := 5) dJ11_hasNext_4 rfl rfl rfl ?_ | refine aw_aloadN_n (i := 0) (q := 5) dJ11_hasNext_4 rfl rfl rfl ?_ | refine aw_aloadQ_n (i := 0) (q := 5) dJ11_hasNext_4 rfl rfl rfl ?_
  refine aw_getfield (q := 8) dJ11_hasNext_5 gf_J11_1_11 (by assumption) rfl rfl ?_
  refine aw_getfield (q := 11) dJ11_hasNext_8 gf_J11_28_14 (by assumption) rfl rfl ?_
  refine aw_icmp_eq (tgt := 18) (q := 14) dJ11_hasNext_11 (by decide) rfl (fun hc => ?_) (fun hc => ?_)
  · refine aw_iconst (v := 0) (q := 19) dJ11_hasNext_18 rfl rfl ?_
    exact aw_ireturn dJ11_hasNext_19 rfl (by first | rfl | exact zB_nar _) (by refine ⟨?_, rfl⟩; rw [zB_f (fun q => q hc)])
  · refine aw_iconst (v := 1) (q := 15) dJ11_hasNext_14 rfl rfl ?_
    refine aw_goto (tgt := 19) dJ11_hasNext_15 (by decide) ?_
    exact aw_ireturn dJ11_hasNext_19 rfl (by first | rfl | exact zB_nar _) (by refine ⟨?_, rfl⟩; rw [zB_t hc])
theorem C_Itr_check {u t : zT} {a it k n ed : Nat} {mc lr : Int32} (ha : μ a = some (t, oAL mc ed n)) (hi : μ it = some (u, oItr k lr mc a)) : Meets G 1 MJ11_checkForComodification [.ref it] μ (zVoid μ) 0 0 := by
  refine meets_of (by decide +kernel) (Nat.le_of_ble_eq_true rfl) ?_
  first | refine aw_aload_n (i := 0) (q := 1) dJ11_checkForComodification_0 rfl rfl rfl ?_ | refine aw_aloadN_n (i := 0) (q := 1) dJ11_checkForComodification_0 rfl rfl rfl ?_ | refine aw_aloadQ_n (i := 0) (q := 1) dJ11_checkForComodification_0 rfl rfl rfl ?_
  refine aw_getfield (q := 4) dJ11_checkForComodification_1 gf_J11_1_11 (by assumption) rfl rfl ?_
  refine aw_getfield (q := 7) dJ11_checkForComodification_4 gf_J11_17_14 (by assumption) rfl rfl ?_
  first | refine aw_aload_n (i := 0) (q := 8) dJ11_checkForComodification_7 rfl rfl rfl ?_ | refine aw_aloadN_n (i := 0) (q := 8) dJ11_checkForComodification_7 rfl rfl rfl ?_ | refine aw_aloadQ_n (i := 0) (q := 8) dJ11_checkForComodification_7 rfl rfl rfl ?_
  refine aw_getfield (q := 11) dJ11_checkForComodification_8 gf_J11_22_11 (by assumption) rfl rfl ?_
  refine aw_icmp_eq (tgt := 22) (q := 14) dJ11_checkForComodification_11 (by decide) rfl (fun _ => ?_) (fun hZ => absurd (rfl) hZ)
  exact aw_return dJ11_checkForComodification_22 rfl (⟨rfl, rfl⟩)
theorem C_Itr_next {t ta u : zT} {a n it k : Nat} {mc lr : Int32} {f : Nat → Nat} (h : zAL G μ t ta a mc n f) (hi : μ it = some (u, oItr k lr mc a)) (hk : k < n) (hu : u ≠ zC) (hut : u ≠ t) (huta : u ≠ ta) : Meets G 2 MJ11_next [.ref it] μ (fun v μ' => v = some (.ref (f k)) ∧ μ' = updM μ it (u, oItr (k + 1) (nI k) mc a)) 0 0 := by
  obtain ⟨ed, ha, q | ⟨cap, g, hg, g2, g3, g4, g5⟩⟩ := h
  · omega
  have ne1 : a ≠ it := zneq ha hi (by simp)
  have ne2 : ed ≠ it := zneq hg hi (by simp)
  refine meets_of (by decide +kernel) (Nat.le_of_ble_eq_true rfl) ?_
  first | refine aw_aload_n (i := 0) (q := 1) dJ11_next_0 rfl rfl rfl ?_ | refine aw_aloadN_n (i := 0) (q := 1) dJ11_next_0 rfl rfl rfl ?_ | refine aw_aloadQ_n (i := 0) (q := 1) dJ11_next_0 rfl rfl rfl ?_
  refine aw_callV (q := 4) dJ11_next_1 (C_Itr_check ha hi) cv_J11_31_11 (by assumption) rfl rfl (by decide) (by decide) (by first | exact Nat.le_of_ble_eq_true rfl | simp [zcat_rf, Value.category]) rfl (zpv ?_)
  first | refine aw_aload_n (i := 0) (q := 5) dJ11_next_4 rfl rfl rfl ?_ | refine aw_aloadN_n (i := 0) (q := 5) dJ11_next_4 rfl rfl rfl ?_ | refine aw_aloadQ_n (i := 0) (q := 5) dJ11_next_4 rfl rfl rfl ?_
  refine aw_getfield (q := 8) dJ11_next_5 gf_J11_25_11 (by assumption) rfl rfl ?_
  refine aw_istore_n (i := 1) (q := 9) dJ11_next_8 rfl (by decide) rfl ?_
  refine aw_iload_n (i := 1) (q := 10) dJ11_next_9 rfl rfl rfl ?_
  first | refine aw_aload_n (i := 0) (q := 11) dJ11_next_10 rfl rfl rfl ?_ | refine aw_aloadN_n (i := 0) (q := 11) dJ11_next_10 rfl rfl rfl ?_ | refine aw_aloadQ_n (i := 0) (q := 11) dJ11_next_10 rfl rfl rfl ?_
  refine aw_getfield (q := 14) dJ11_next_11 gf_J11_1_11 (by assumption) rfl rfl ?_
  refine aw_getfield (q := 17) dJ11_next_14 gf_J11_28_14 (by assumption) rfl rfl ?_
  refine aw_icmp_lt (tgt := 28) (q := 20) dJ11_next_17 (by decide) rfl (fun _ => ?_) (fun hZ => absurd (nI_lt hk (by omega)) hZ)
  first | refine aw_aload_n (i := 0) (q := 29) dJ11_next_28 rfl rfl rfl ?_ | refine aw_aloadN_n (i := 0) (q := 29) dJ11_next_28 rfl rfl rfl ?_ | refine aw_aloadQ_n (i := 0) (q := 29) dJ11_next_28 rfl rfl rfl ?_
  refine aw_getfield (q := 32) dJ11_next_29 gf_J11_1_11 (by assumption) rfl rfl ?_
  refine aw_getfield (q := 35) dJ11_next_32 gf_J11_37_14 (by assumption) rfl rfl ?_
  first | refine aw_astore_n (i := 2) (q := 36) dJ11_next_35 rfl (by decide) rfl ?_ | refine aw_astoreN_n (i := 2) (q := 36) dJ11_next_35 rfl (by decide) rfl ?_ | refine aw_astoreQ_n (i := 2) (q := 36) dJ11_next_35 rfl (by decide) rfl ?_
  refine aw_iload_n (i := 1) (q := 37) dJ11_next_36 rfl rfl rfl ?_
  first | refine aw_aload_n (i := 2) (q := 38) dJ11_next_37 rfl rfl rfl ?_ | refine aw_aloadN_n (i := 2) (q := 38) dJ11_next_37 rfl rfl rfl ?_ | refine aw_aloadQ_n (i := 2) (q := 38) dJ11_next_37 rfl rfl rfl ?_
  first | refine aw_alenI (q := 39) dJ11_next_38 (by assumption) rfl ?_ | refine aw_alenO (q := 39) dJ11_next_38 (by assumption) rfl ?_ | refine aw_alenN (q := 39) dJ11_next_38 (by assumption) rfl ?_ | refine aw_alenB (q := 39) dJ11_next_38 (by assumption) rfl ?_ | refine aw_alenP (q := 39) dJ11_next_38 (by assumption) rfl ?_
  refine aw_icmp_lt (tgt := 50) (q := 42) dJ11_next_39 (by decide) rfl (fun _ => ?_) (fun hZ => absurd (nI_lt (a := k) (b := cap) (by omega) (by omega)) hZ)
  first | refine aw_aload_n (i := 0) (q := 51) dJ11_next_50 rfl rfl rfl ?_ | refine aw_aloadN_n (i := 0) (q := 51) dJ11_next_50 rfl rfl rfl ?_ | refine aw_aloadQ_n (i := 0) (q := 51) dJ11_next_50 rfl rfl rfl ?_
  refine aw_iload_n (i := 1) (q := 52) dJ11_next_51 rfl rfl rfl ?_
  refine aw_iconst (v := 1) (q := 53) dJ11_next_52 rfl rfl ?_
  refine aw_iadd (q := 54) dJ11_next_53 rfl ?_
  refine aw_putfield (q := 57) dJ11_next_54 gf_J11_25_11 hi (by first | assumption | simp) (by first | rfl | exact znar_rf _ _) (by first | rfl | exact zfit_rf _ _) (Nat.le_of_ble_eq_true rfl) rfl (fun μ1 hg_μ1 => ?_)
  have ha : μ1 _ = some _ := hg_μ1 ▸ (updM_ne ne1).trans ha
  have hg : μ1 _ = some _ := hg_μ1 ▸ (updM_ne ne2).trans hg
  have hi : μ1 _ = some _ := hg_μ1 ▸ updM_eq _ _ _
  simp only [List.set] at hi hg_μ1
  first | refine aw_aload_n (i := 2) (q := 58) dJ11_next_57 rfl rfl rfl ?_ | refine aw_aloadN_n (i := 2) (q := 58) dJ11_next_57 rfl rfl rfl ?_ | refine aw_aloadQ_n (i := 2) (q := 58) dJ11_next_57 rfl rfl rfl ?_
  first | refine aw_aload_n (i := 0) (q := 59) dJ11_next_58 rfl rfl rfl ?_ | refine aw_aloadN_n (i := 0) (q := 59) dJ11_next_58 rfl rfl rfl ?_ | refine aw_aloadQ_n (i := 0) (q := 59) dJ11_next_58 rfl rfl rfl ?_
  refine aw_iload_n (i := 1) (q := 60) dJ11_next_59 rfl rfl rfl ?_
  refine aw_dup_x1 (q := 61) dJ11_next_60 (by first | rfl | exact zcat_rf _) (by first | rfl | exact zcat_rf _) rfl ?_
  refine aw_putfield (q := 64) dJ11_next_61 gf_J11_13_11 hi (by first | assumption | simp) (by first | rfl | exact znar_rf _ _) (by first | rfl | exact zfit_rf _ _) (Nat.le_of_ble_eq_true rfl) rfl (fun μ2 hg_μ2 => ?_)
  have ha : μ2 _ = some _ := hg_μ2 ▸ (updM_ne ne1).trans ha
  have hg : μ2 _ = some _ := hg_μ2 ▸ (updM_ne ne2).trans hg
  have hi : μ2 _ = some _ := hg_μ2 ▸ updM_eq _ _ _
  simp only [List.set] at hi hg_μ2
  first | refine aw_aaldO (q := 65) (v := some (f k)) (k) dJ11_next_64 (by assumption) (by first | assumption | (simp only [← nI_add, ← pk_mul]; rfl) | rfl) (by omega) (by omega) (g5 k hk) rfl ?_ | refine aw_aaldP (q := 65) (v := some (f k)) (k) dJ11_next_64 (by assumption) (by first | assumption | (simp only [← nI_add, ← pk_mul]; rfl) | rfl) (by omega) (by omega) (g5 k hk) rfl ?_ | refine aw_aaldN (q := 65) (v := some (f k)) (k) dJ11_next_64 (by assumption) (by first | assumption | (simp only [← nI_add, ← pk_mul]; rfl) | rfl) (by omega) (by omega) (g5 k hk) rfl ?_
  exact aw_areturnR dJ11_next_65 rfl (by first | exact Or.inl ⟨_, rfl⟩ | exact Or.inr ⟨_, rfl⟩) (by refine ⟨rfl, ?_⟩; rw [hg_μ2, hg_μ1, updM_twice, nI_1])
theorem C_newLength {a : Nat} {b c : Nat} (h : a + b + c < 2 ^ 30) (h0 : 0 < b) : Meets G 2 MJ12_newLength [.int (nI a), .int (nI b), .int (nI c)] μ (zPure (.int (nI (a + (if b < c then c else b)))) μ) 0 0 := by
  have e : (if nI b < nI c then nI c else nI b) = nI (if b < c then c else b) := by
    by_cases q : b < c
    · rw [if_pos q, if_pos (nI_lt q (by omega))]
    · rw [if_neg q, if_neg (nI_nlt (by omega) (by omega))]
  have hb : a + (if b < c then c else b) < 2 ^ 30 ∧ 0 < a + (if b < c then c else b) := by split <;> omega
  refine meets_of (by decide +kernel) (Nat.le_of_ble_eq_true rfl) ?_
  refine aw_iload_n (i := 0) (q := 1) dJ12_newLength_0 rfl rfl rfl ?_
  refine aw_iload_n (i := 1) (q := 2) dJ12_newLength_1 rfl rfl rfl ?_
  refine aw_iload_n (i := 2) (q := 3) dJ12_newLength_2 rfl rfl rfl ?_
  refine aw_max (q := 6) dJ12_newLength_3 mx_J12_194 (by decide) (by first | exact Nat.le_of_ble_eq_true rfl | simp [zcat_rf, Value.category]) rfl ?_
  refine aw_iadd (q := 7) dJ12_newLength_6 rfl ?_
  refine aw_istore_n (i := 3) (q := 8) dJ12_newLength_7 rfl (by decide) rfl ?_
  refine aw_iconst (v := 0) (q := 9) dJ12_newLength_8 rfl rfl ?_
  refine aw_iload_n (i := 3) (q := 10) dJ12_newLength_9 rfl rfl rfl ?_
  rw [e, nI_add]
  generalize a + (if b < c then c else b) = r at hb ⊢
  refine aw_icmp_ge (tgt := 21) (q := 13) dJ12_newLength_10 (by decide) rfl (fun hZ => absurd hZ (nI_ge (a := 0) hb.2 (by omega))) (fun _ => ?_)
  refine aw_iload_n (i := 3) (q := 14) dJ12_newLength_13 rfl rfl rfl ?_
  refine aw_ldc (q := 16) dJ12_newLength_14 q467 rfl ?_
  refine aw_icmp_gt (tgt := 21) (q := 19) dJ12_newLength_16 (by decide) rfl (fun hZ => absurd hZ ((fun q => absurd q (Int32.not_lt.mpr (nI_le (a := r) (b := 2147483639) (by omega) (by decide)))))) (fun _ => ?_)
  refine aw_iload_n (i := 3) (q := 20) dJ12_newLength_19 rfl rfl rfl ?_
  exact aw_ireturn dJ12_newLength_20 rfl (by first | rfl | exact zB_nar _) (⟨rfl, rfl⟩)
theorem C_copyOf2 {ta : zT} {ed cap N : Nat} {g : Nat → Option Nat} (h : μ ed = some (ta, aO G cap g)) (hta : ta ≠ zC) (hc : cap ≤ N) (hN : N < 2 ^ 20) (hel : ∀ i, i < cap → ∀ w, g i = some w → zOb μ w) : Meets G 2 MJ14_copyOf_2 [.ref ed, .int (nI N), .ref (G.2.2.2 4)] μ (fun v μ' => ∃ b g', v = some (.ref b) ∧ μ b = none ∧ μ' = updM μ b (ta, aO G N g') ∧ ∀ i, i < cap → g' i = g i) 1 N := by
  refine meets_of (by decide +kernel) (Nat.le_of_ble_eq_true rfl) ?_
  first | refine aw_aload_n (i := 2) (q := 1) dJ14_copyOf_2_0 rfl rfl rfl ?_ | refine aw_aloadN_n (i := 2) (q := 1) dJ14_copyOf_2_0 rfl rfl rfl ?_ | refine aw_aloadQ_n (i := 2) (q := 1) dJ14_copyOf_2_0 rfl rfl rfl ?_
  refine aw_ldcM (q := 3) dJ14_copyOf_2_1 q503 rfl ?_
  first | refine aw_acmpR_ne (tgt := 13) (q := 6) dJ14_copyOf_2_3 (by decide) rfl (fun hZ => absurd (rfl) hZ) (fun _ => ?_) | refine aw_acmpRQ_ne (tgt := 13) (q := 6) dJ14_copyOf_2_3 (by decide) rfl (fun hZ => absurd (rfl) hZ) (fun _ => ?_) | refine aw_acmpQR_ne (tgt := 13) (q := 6) dJ14_copyOf_2_3 (by decide) rfl (fun hZ => absurd (rfl) hZ) (fun _ => ?_) | refine aw_acmp_ne (tgt := 13) (q := 6) dJ14_copyOf_2_3 (by decide) rfl (fun hZ => absurd (rfl) hZ) (fun _ => ?_)
  refine aw_iload_n (i := 1) (q := 7) dJ14_copyOf_2_6 rfl rfl rfl ?_
  refine AW.sub (bc' := 1) (bs' := N) (by omega) (by omega) ?_
  refine aw_newq (j := 3) (N := N) (q := 10) dJ14_copyOf_2_7 q505 q504 rfl rfl (by omega) ta (by first | assumption | simp) rfl (fun b μ1 hn_b hg_μ1 => ?_)
  have h : μ1 _ = some _ := hg_μ1 ▸ (updM_ne (zneN h hn_b)).trans h
  have h_b : μ1 b = some _ := hg_μ1 ▸ updM_eq _ _ _
  refine aw_goto (tgt := 24) dJ14_copyOf_2_10 (by decide) ?_
  first | refine aw_astore_n (i := 3) (q := 25) dJ14_copyOf_2_24 rfl (by decide) rfl ?_ | refine aw_astoreN_n (i := 3) (q := 25) dJ14_copyOf_2_24 rfl (by decide) rfl ?_ | refine aw_astoreQ_n (i := 3) (q := 25) dJ14_copyOf_2_24 rfl (by decide) rfl ?_
  first | refine aw_aload_n (i := 0) (q := 26) dJ14_copyOf_2_25 rfl rfl rfl ?_ | refine aw_aloadN_n (i := 0) (q := 26) dJ14_copyOf_2_25 rfl rfl rfl ?_ | refine aw_aloadQ_n (i := 0) (q := 26) dJ14_copyOf_2_25 rfl rfl rfl ?_
  refine aw_iconst (v := 0) (q := 27) dJ14_copyOf_2_26 rfl rfl ?_
  first | refine aw_aload_n (i := 3) (q := 28) dJ14_copyOf_2_27 rfl rfl rfl ?_ | refine aw_aloadN_n (i := 3) (q := 28) dJ14_copyOf_2_27 rfl rfl rfl ?_ | refine aw_aloadQ_n (i := 3) (q := 28) dJ14_copyOf_2_27 rfl rfl rfl ?_
  refine aw_iconst (v := 0) (q := 29) dJ14_copyOf_2_28 rfl rfl ?_
  first | refine aw_aload_n (i := 0) (q := 30) dJ14_copyOf_2_29 rfl rfl rfl ?_ | refine aw_aloadN_n (i := 0) (q := 30) dJ14_copyOf_2_29 rfl rfl rfl ?_ | refine aw_aloadQ_n (i := 0) (q := 30) dJ14_copyOf_2_29 rfl rfl rfl ?_
  first | refine aw_alenI (q := 31) dJ14_copyOf_2_30 (by assumption) rfl ?_ | refine aw_alenO (q := 31) dJ14_copyOf_2_30 (by assumption) rfl ?_ | refine aw_alenN (q := 31) dJ14_copyOf_2_30 (by assumption) rfl ?_ | refine aw_alenB (q := 31) dJ14_copyOf_2_30 (by assumption) rfl ?_ | refine aw_alenP (q := 31) dJ14_copyOf_2_30 (by assumption) rfl ?_
  refine aw_iload_n (i := 1) (q := 32) dJ14_copyOf_2_31 rfl rfl rfl ?_
  refine aw_min (q := 35) dJ14_copyOf_2_32 mi_J14_304 (by decide) (by first | exact Nat.le_of_ble_eq_true rfl | simp [zcat_rf, Value.category]) rfl ?_
  have emin : (if nI N < nI cap then nI N else nI cap) = nI cap := if_neg (nI_nlt hc (by omega))
  rw [emin]
  refine aw_copyq (j := 3) (sp := 0) (dp := 0) (n := cap) (q := 38) dJ14_copyOf_2_35 cp_J14_150 rfl h h_b hta rfl rfl rfl (by omega) (by omega) (by omega) (by omega) (fun i hi w hw => by rw [Nat.zero_add] at hw; obtain ⟨t', ci, fs, q1, q2⟩ := hel i hi w hw; exact ⟨t', ci, fs, hg_μ1 ▸ (updM_ne (zneN q1 hn_b)).trans q1, q2⟩) (by decide) (Nat.le_of_ble_eq_true rfl) rfl (fun μ2 hg_μ2 => ?_)
  have h_b : μ2 _ = some _ := hg_μ2 ▸ updM_eq _ _ _
  first | refine aw_aload_n (i := 3) (q := 39) dJ14_copyOf_2_38 rfl rfl rfl ?_ | refine aw_aloadN_n (i := 3) (q := 39) dJ14_copyOf_2_38 rfl rfl rfl ?_ | refine aw_aloadQ_n (i := 3) (q := 39) dJ14_copyOf_2_38 rfl rfl rfl ?_
  exact aw_areturnR dJ14_copyOf_2_39 rfl (by first | exact Or.inl ⟨_, rfl⟩ | exact Or.inr ⟨_, rfl⟩) (by refine ⟨b, _, rfl, hn_b, by rw [hg_μ2, hg_μ1, updM_twice], fun i hi => ?_⟩; rw [pk_cpy_in (Nat.zero_le _) (by omega)]; simp)
theorem C_copyOf {ta : zT} {ed cap N : Nat} {g : Nat → Option Nat} (h : μ ed = some (ta, aO G cap g)) (hta : ta ≠ zC) (hc : cap ≤ N) (hN : N < 2 ^ 20) (hel : ∀ i, i < cap → ∀ w, g i = some w → zOb μ w) : Meets G 3 MJ14_copyOf [.ref ed, .int (nI N)] μ (fun v μ' => ∃ b g', v = some (.ref b) ∧ μ b = none ∧ μ' = updM μ b (ta, aO G N g') ∧ ∀ i, i < cap → g' i = g i) 1 N := by
  refine meets_of (by decide +kernel) (Nat.le_of_ble_eq_true rfl) ?_
  first | refine aw_aload_n (i := 0) (q := 1) dJ14_copyOf_0 rfl rfl rfl ?_ | refine aw_aloadN_n (i := 0) (q := 1) dJ14_copyOf_0 rfl rfl rfl ?_ | refine aw_aloadQ_n (i := 0) (q := 1) dJ14_copyOf_0 rfl rfl rfl ?_
  refine aw_iload_n (i := 1) (q := 2) dJ14_copyOf_1 rfl rfl rfl ?_
  first | refine aw_aload_n (i := 0) (q := 3) dJ14_copyOf_2 rfl rfl rfl ?_ | refine aw_aloadN_n (i := 0) (q := 3) dJ14_copyOf_2 rfl rfl rfl ?_ | refine aw_aloadQ_n (i := 0) (q := 3) dJ14_copyOf_2 rfl rfl rfl ?_
  refine aw_getCO (q := 6) dJ14_copyOf_3 gc_J14_86 h (by decide) (Nat.le_of_ble_eq_true rfl) rfl ?_
  refine AW.sub (bc' := 1) (bs' := N) (by omega) (by omega) ?_
  refine aw_callS (q := 9) dJ14_copyOf_6 (C_copyOf2 h hta hc hN hel) cs_J14_300 rfl rfl (by decide) (by decide) (by first | exact Nat.le_of_ble_eq_true rfl | simp [zcat_rf, Value.category]) rfl (fun v6 μ1 hp => ?_)
  obtain ⟨b, g', rfl, hb, hg, hi⟩ := hp
  exact aw_areturnR dJ14_copyOf_9 rfl (by first | exact Or.inl ⟨_, rfl⟩ | exact Or.inr ⟨_, rfl⟩) (⟨b, g', rfl, hb, hg, hi⟩)
/-- the array is full: a greater one -/
theorem C_AL_grow2 {t ta : zT} {a n ed : Nat} {mc : Int32} {f : Nat → Nat} (ha : μ a = some (t, oAL mc ed n)) (hA : (n = 0 ∧ ed = G.2.2.2 0) ∨ ∃ g, μ ed = some (ta, aO G n g) ∧ 1 ≤ n ∧ ∀ i, i < n → g i = some (f i)) (ht : t ≠ zC) (hta : ta ≠ zC) (htt : t ≠ ta) (hn : n < 2 ^ 16) (hel : ∀ i, i < n → zOb μ (f i)) : Meets G 4 MJ2_grow_2 [.ref a, .int (nI (n + 1))] μ (fun v μ' => ∃ b N g, v = some (.ref b) ∧ μ b = none ∧ μ' = updM (updM μ b (ta, aO G N g)) a (t, oAL mc b n) ∧ n + 1 ≤ N ∧ N < 2 ^ 20 ∧ ∀ i, i < n → g i = some (f i)) 1 (2 * n + 10) := by
  rcases hA with ⟨rfl, rfl⟩ | ⟨g, hg, n1, gi⟩
  · refine meets_of (by decide +kernel) (Nat.le_of_ble_eq_true rfl) ?_
    first | refine aw_aload_n (i := 0) (q := 1) dJ2_grow_2_0 rfl rfl rfl ?_ | refine aw_aloadN_n (i := 0) (q := 1) dJ2_grow_2_0 rfl rfl rfl ?_ | refine aw_aloadQ_n (i := 0) (q := 1) dJ2_grow_2_0 rfl rfl rfl ?_
    refine aw_getfield (q := 4) dJ2_grow_2_1 gf_J2_9_14 (by assumption) rfl rfl ?_
    refine aw_emptylen (q := 5) dJ2_grow_2_4 rfl ?_
    refine aw_istore_n (i := 2) (q := 6) dJ2_grow_2_5 rfl (by decide) rfl ?_
    refine aw_iload_n (i := 2) (q := 7) dJ2_grow_2_6 rfl rfl rfl ?_
    refine aw_if_gt (tgt := 20) (q := 10) dJ2_grow_2_7 (by decide) rfl (fun hZ => absurd hZ ((by decide))) (fun _ => ?_)
    first | refine aw_aload_n (i := 0) (q := 11) dJ2_grow_2_10 rfl rfl rfl ?_ | refine aw_aloadN_n (i := 0) (q := 11) dJ2_grow_2_10 rfl rfl rfl ?_ | refine aw_aloadQ_n (i := 0) (q := 11) dJ2_grow_2_10 rfl rfl rfl ?_
    refine aw_getfield (q := 14) dJ2_grow_2_11 gf_J2_9_14 (by assumption) rfl rfl ?_
    refine aw_getstatic (v := .ref (G.2.2.2 0)) (q := 17) dJ2_grow_2_14 gs_J2_39 (by simp [zStL]) rfl ?_
    first | refine aw_acmpR_eq (tgt := 45) (q := 20) dJ2_grow_2_17 (by decide) rfl (fun _ => ?_) (fun hZ => absurd (rfl) hZ) | refine aw_acmpRQ_eq (tgt := 45) (q := 20) dJ2_grow_2_17 (by decide) rfl (fun _ => ?_) (fun hZ => absurd (rfl) hZ) | refine aw_acmpQR_eq (tgt := 45) (q := 20) dJ2_grow_2_17 (by decide) rfl (fun _ => ?_) (fun hZ => absurd (rfl) hZ) | refine aw_acmp_eq (tgt := 45) (q := 20) dJ2_grow_2_17 (by decide) rfl (fun _ => ?_) (fun hZ => absurd (rfl) hZ)
    first | refine aw_aload_n (i := 0) (q := 46) dJ2_grow_2_45 rfl rfl rfl ?_ | refine aw_aloadN_n (i := 0) (q := 46) dJ2_grow_2_45 rfl rfl rfl ?_ | refine aw_aloadQ_n (i := 0) (q := 46) dJ2_grow_2_45 rfl rfl rfl ?_
    refine aw_bipush (v := 10) (q := 48) dJ2_grow_2_46 rfl rfl ?_
    refine aw_iload_n (i := 1) (q := 49) dJ2_grow_2_48 rfl rfl rfl ?_
    refine aw_max (q := 52) dJ2_grow_2_49 mx_J2_79 (by decide) (by first | exact Nat.le_of_ble_eq_true rfl | simp [zcat_rf, Value.category]) rfl ?_
    rw [show (if (10 : Int32) < nI (0 + 1) then nI (0 + 1) else 10) = nI 10 from rfl]
    refine AW.sub (bc' := 1) (bs' := 10) (by omega) (by omega) ?_
    refine aw_newq (j := 3) (N := 10) (q := 55) dJ2_grow_2_52 q511 q504 rfl rfl (by omega) ta (by first | assumption | simp) rfl (fun b μ1 hn_b hg_μ1 => ?_)
    have ha : μ1 _ = some _ := hg_μ1 ▸ (updM_ne (zneN ha hn_b)).trans ha
    have h_b : μ1 b = some _ := hg_μ1 ▸ updM_eq _ _ _
    refine aw_dup_x1 (q := 56) dJ2_grow_2_55 (by first | rfl | exact zcat_rf _) (by first | rfl | exact zcat_rf _) rfl ?_
    refine aw_putfield (q := 59) dJ2_grow_2_56 gf_J2_9_14 ha (by first | assumption | simp) (by first | rfl | exact znar_rf _ _) (by first | rfl | exact zfit_rf _ _) (Nat.le_of_ble_eq_true rfl) rfl (fun μ2 hg_μ2 => ?_)
    have ha : μ2 _ = some _ := hg_μ2 ▸ updM_eq _ _ _
    simp only [List.set] at ha hg_μ2
    exact aw_areturnR dJ2_grow_2_59 rfl (by first | exact Or.inl ⟨_, rfl⟩ | exact Or.inr ⟨_, rfl⟩) (by exact ⟨b, 10, _, rfl, hn_b, by rw [hg_μ2, hg_μ1], by omega, by omega, fun i hi => by omega⟩)
  · have ne : ed ≠ a := zneq hg ha (by simp [Ne.symm htt])
    refine meets_of (by decide +kernel) (Nat.le_of_ble_eq_true rfl) ?_
    first | refine aw_aload_n (i := 0) (q := 1) dJ2_grow_2_0 rfl rfl rfl ?_ | refine aw_aloadN_n (i := 0) (q := 1) dJ2_grow_2_0 rfl rfl rfl ?_ | refine aw_aloadQ_n (i := 0) (q := 1) dJ2_grow_2_0 rfl rfl rfl ?_
    refine aw_getfield (q := 4) dJ2_grow_2_1 gf_J2_9_14 (by assumption) rfl rfl ?_
    first | refine aw_alenI (q := 5) dJ2_grow_2_4 (by assumption) rfl ?_ | refine aw_alenO (q := 5) dJ2_grow_2_4 (by assumption) rfl ?_ | refine aw_alenN (q := 5) dJ2_grow_2_4 (by assumption) rfl ?_ | refine aw_alenB (q := 5) dJ2_grow_2_4 (by assumption) rfl ?_ | refine aw_alenP (q := 5) dJ2_grow_2_4 (by assumption) rfl ?_
    refine aw_istore_n (i := 2) (q := 6) dJ2_grow_2_5 rfl (by decide) rfl ?_
    refine aw_iload_n (i := 2) (q := 7) dJ2_grow_2_6 rfl rfl rfl ?_
    refine aw_if_gt (tgt := 20) (q := 10) dJ2_grow_2_7 (by decide) rfl (fun _ => ?_) (fun hZ => absurd (nI_lt (a := 0) (by omega) (by omega)) hZ)
    refine aw_iload_n (i := 2) (q := 21) dJ2_grow_2_20 rfl rfl rfl ?_
    refine aw_iload_n (i := 1) (q := 22) dJ2_grow_2_21 rfl rfl rfl ?_
    refine aw_iload_n (i := 2) (q := 23) dJ2_grow_2_22 rfl rfl rfl ?_
    refine aw_isub (q := 24) dJ2_grow_2_23 rfl ?_
    refine aw_iload_n (i := 2) (q := 25) dJ2_grow_2_24 rfl rfl rfl ?_
    refine aw_iconst (v := 1) (q := 26) dJ2_grow_2_25 rfl rfl ?_
    refine aw_ishr (q := 27) dJ2_grow_2_26 rfl ?_
    rw [show nI (n + 1) - nI n = nI 1 by rw [pk_sub (by omega), Nat.add_sub_cancel_left], pk_shrN (by omega) (1 &&& 31) 1 (by decide), Nat.pow_one]
    refine aw_callS (q := 30) dJ2_grow_2_27 (C_newLength (a := n) (b := 1) (c := n / 2) (by omega) (by omega)) cs_J2_73 rfl rfl (by decide) (by decide) (by first | exact Nat.le_of_ble_eq_true rfl | simp [zcat_rf, Value.category]) rfl (zpk ?_)
    refine aw_istore_n (i := 3) (q := 31) dJ2_grow_2_30 rfl (by decide) rfl ?_
    first | refine aw_aload_n (i := 0) (q := 32) dJ2_grow_2_31 rfl rfl rfl ?_ | refine aw_aloadN_n (i := 0) (q := 32) dJ2_grow_2_31 rfl rfl rfl ?_ | refine aw_aloadQ_n (i := 0) (q := 32) dJ2_grow_2_31 rfl rfl rfl ?_
    first | refine aw_aload_n (i := 0) (q := 33) dJ2_grow_2_32 rfl rfl rfl ?_ | refine aw_aloadN_n (i := 0) (q := 33) dJ2_grow_2_32 rfl rfl rfl ?_ | refine aw_aloadQ_n (i := 0) (q := 33) dJ2_grow_2_32 rfl rfl rfl ?_
    refine aw_getfield (q := 36) dJ2_grow_2_33 gf_J2_9_14 (by assumption) rfl rfl ?_
    refine aw_iload_n (i := 3) (q := 37) dJ2_grow_2_36 rfl rfl rfl ?_
    generalize hN : n + (if 1 < n / 2 then n / 2 else 1) = N
    have hN2 : n + 1 ≤ N ∧ N < 2 ^ 20 ∧ N ≤ 2 * n + 1 := by (subst hN; split <;> omega)
    refine AW.sub (bc' := 1) (bs' := N) (by omega) (by omega) ?_
    refine aw_callS (q := 40) dJ2_grow_2_37 (C_copyOf (N := N) hg hta (by omega) hN2.2.1 (fun i hi w hw => by rw [gi i hi] at hw; cases hw; exact hel i hi)) cs_J2_66 rfl rfl (by decide) (by decide) (by first | exact Nat.le_of_ble_eq_true rfl | simp [zcat_rf, Value.category]) rfl (fun v37 μ1 hp => ?_)
    obtain ⟨b, g', rfl, hb, hg1, hi⟩ := hp
    have ha : μ1 a = some _ := hg1 ▸ (updM_ne (zneN ha hb)).trans ha
    refine aw_dup_x1 (q := 41) dJ2_grow_2_40 (by first | rfl | exact zcat_rf _) (by first | rfl | exact zcat_rf _) rfl ?_
    refine aw_putfield (q := 44) dJ2_grow_2_41 gf_J2_9_14 ha (by first | assumption | simp) (by first | rfl | exact znar_rf _ _) (by first | rfl | exact zfit_rf _ _) (Nat.le_of_ble_eq_true rfl) rfl (fun μ2 hg_μ2 => ?_)
    have ha : μ2 _ = some _ := hg_μ2 ▸ updM_eq _ _ _
    simp only [List.set] at ha hg_μ2
    exact aw_areturnR dJ2_grow_2_44 rfl (by first | exact Or.inl ⟨_, rfl⟩ | exact Or.inr ⟨_, rfl⟩) (by exact ⟨b, N, g', rfl, hb, by rw [hg_μ2, hg1], hN2.1, hN2.2.1, fun i hii => by rw [hi i hii, gi i hii]⟩)
theorem C_AL_grow {t ta : zT} {a n ed : Nat} {mc : Int32} {f : Nat → Nat} (ha : μ a = some (t, oAL mc ed n)) (hA : (n = 0 ∧ ed = G.2.2.2 0) ∨ ∃ g, μ ed = some (ta, aO G n g) ∧ 1 ≤ n ∧ ∀ i, i < n → g i = some (f i)) (ht : t ≠ zC) (hta : ta ≠ zC) (htt : t ≠ ta) (hn : n < 2 ^ 16) (hel : ∀ i, i < n → zOb μ (f i)) : Meets G 5 MJ2_grow [.ref a] μ (fun v μ' => ∃ b N g, v = some (.ref b) ∧ μ b = none ∧ μ' = updM (updM μ b (ta, aO G N g)) a (t, oAL mc b n) ∧ n + 1 ≤ N ∧ N < 2 ^ 20 ∧ ∀ i, i < n → g i = some (f i)) 1 (2 * n + 10) := by
  refine meets_of (by decide +kernel) (Nat.le_of_ble_eq_true rfl) ?_
  refine AW.sub (bc' := 1) (bs' := (2 * n + 10)) (by omega) (by omega) ?_
  first | refine aw_aload_n (i := 0) (q := 1) dJ2_grow_0 rfl rfl rfl ?_ | refine aw_aloadN_n (i := 0) (q := 1) dJ2_grow_0 rfl rfl rfl ?_ | refine aw_aloadQ_n (i := 0) (q := 1) dJ2_grow_0 rfl rfl rfl ?_
  first | refine aw_aload_n (i := 0) (q := 2) dJ2_grow_1 rfl rfl rfl ?_ | refine aw_aloadN_n (i := 0) (q := 2) dJ2_grow_1 rfl rfl rfl ?_ | refine aw_aloadQ_n (i := 0) (q := 2) dJ2_grow_1 rfl rfl rfl ?_
  refine aw_getfield (q := 5) dJ2_grow_2 gf_J2_48_14 (by assumption) rfl rfl ?_
  refine aw_iconst (v := 1) (q := 6) dJ2_grow_5 rfl rfl ?_
  refine aw_iadd (q := 7) dJ2_grow_6 rfl ?_
  rw [nI_1]
  refine aw_callV (q := 10) dJ2_grow_7 (C_AL_grow2 ha hA ht hta htt hn hel) cv_J2_69_14 (by assumption) rfl rfl (by decide) (by decide) (by first | exact Nat.le_of_ble_eq_true rfl | simp [zcat_rf, Value.category]) rfl (fun v7 μ1 hp => ?_)
  obtain ⟨b, N, g, rfl, h1, h2, h3⟩ := hp
  exact aw_areturnR dJ2_grow_10 rfl (by first | exact Or.inl ⟨_, rfl⟩ | exact Or.inr ⟨_, rfl⟩) (⟨b, N, g, rfl, h1, h2, h3⟩)
/-- what add leaves -/
def zAdded (G : zG) (μ : zM) (t ta : zT) (a : Nat) (mc : Int32) (n : Nat) (f : Nat → Nat) (x : Nat) : zM → Prop := fun μ' => zAL G μ' t ta a mc (n + 1) (upN f n x) ∧ zKp (zTg t ta) μ μ'
theorem C_AL_add2 {t ta : zT} {a n ed x : Nat} {mc : Int32} {f : Nat → Nat} (ha : μ a = some (t, oAL mc ed n)) (hA : zArr G μ ta ed n f) (hx : zOb μ x) (ht : t ≠ zC) (hta : ta ≠ zC) (htt : t ≠ ta) (hn : n < 2 ^ 16) (hel : ∀ i, i < n → zOb μ (f i)) : Meets G 6 MJ2_add_2 [.ref a, .ref x, .ref ed, .int (nI n)] μ (fun v μ' => v = none ∧ zAdded G μ t ta a mc n f x μ') 1 (2 * n + 10) := by
  have last : ∀ (μ1 : zM) (ed cap : Nat) (g : Nat → Option Nat), μ1 a = some (t, oAL mc ed n) → μ1 ed = some (ta, aO G cap g) → n + 1 ≤ cap → cap < 2 ^ 20 → (∀ i, i < n → g i = some (f i)) → zOb μ1 x → zKp (zTg t ta) μ μ1 → AW G 6 MJ2_add_2 (fun v μ' => v = none ∧ zAdded G μ t ta a mc n f x μ') 0 0 11 [(0, .ref a), (1, .ref x), (2, .ref ed), (3, .int (nI n))] [] μ1 := by
    intro μ1 ed cap g ha hg h1 h2 hi hx hk
    obtain ⟨tx, ci, fs, hx, hxc⟩ := hx
    have ne : ed ≠ a := zneq hg ha (by simp [Ne.symm htt])
    first | refine aw_aload_n (i := 2) (q := 12) dJ2_add_2_11 rfl rfl rfl ?_ | refine aw_aloadN_n (i := 2) (q := 12) dJ2_add_2_11 rfl rfl rfl ?_ | refine aw_aloadQ_n (i := 2) (q := 12) dJ2_add_2_11 rfl rfl rfl ?_
    refine aw_iload_n (i := 3) (q := 13) dJ2_add_2_12 rfl rfl rfl ?_
    first | refine aw_aload_n (i := 1) (q := 14) dJ2_add_2_13 rfl rfl rfl ?_ | refine aw_aloadN_n (i := 1) (q := 14) dJ2_add_2_13 rfl rfl rfl ?_ | refine aw_aloadQ_n (i := 1) (q := 14) dJ2_add_2_13 rfl rfl rfl ?_
    refine aw_aastX (j := 3) (E := "java/lang/Object") n (q := 15) dJ2_add_2_14 rfl hg hta hx hxc rfl (by omega) (by omega) rfl (fun μ2 hg_μ2 => ?_)
    have ha2 : μ2 a = some _ := hg_μ2 ▸ (updM_ne (Ne.symm ne)).trans ha
    have hd2 : μ2 ed = some _ := hg_μ2 ▸ updM_eq _ _ _
    first | refine aw_aload_n (i := 0) (q := 16) dJ2_add_2_15 rfl rfl rfl ?_ | refine aw_aloadN_n (i := 0) (q := 16) dJ2_add_2_15 rfl rfl rfl ?_ | refine aw_aloadQ_n (i := 0) (q := 16) dJ2_add_2_15 rfl rfl rfl ?_
    refine aw_iload_n (i := 3) (q := 17) dJ2_add_2_16 rfl rfl rfl ?_
    refine aw_iconst (v := 1) (q := 18) dJ2_add_2_17 rfl rfl ?_
    refine aw_iadd (q := 19) dJ2_add_2_18 rfl ?_
    rw [nI_1]
    refine aw_putfield (q := 22) dJ2_add_2_19 gf_J2_48_14 ha2 (by first | assumption | simp) (by first | rfl | exact znar_rf _ _) (by first | rfl | exact zfit_rf _ _) (Nat.le_of_ble_eq_true rfl) rfl (fun μ3 hg_μ3 => ?_)
    have hd2 : μ3 _ = some _ := hg_μ3 ▸ (updM_ne ne).trans hd2
    have ha2 : μ3 _ = some _ := hg_μ3 ▸ updM_eq _ _ _
    simp only [List.set] at ha2 hg_μ3
    exact aw_return dJ2_add_2_22 rfl (by refine ⟨rfl, ⟨ed, ha2, Or.inr ⟨cap, _, hd2, by omega, by omega, by omega, fun i hi' => ?_⟩⟩, ?_⟩; (by_cases e : i = n; (subst e; rw [va_up_self, upN_eq]); (rw [va_up_ne _ _ e, upN_ne e]; exact hi i (by omega))); (exact (hk.tr (hg_μ2 ▸ zKp.put hg (Or.inr rfl))).tr (hg_μ3 ▸ zKp.put (hg_μ2 ▸ (updM_ne (Ne.symm ne)).trans ha) (Or.inl rfl))))
  have grow : ((n = 0 ∧ ed = G.2.2.2 0) ∨ ∃ g, μ ed = some (ta, aO G n g) ∧ 1 ≤ n ∧ ∀ i, i < n → g i = some (f i)) → AW G 6 MJ2_add_2 (fun v μ' => v = none ∧ zAdded G μ t ta a mc n f x μ') 1 (2 * n + 10) 6 [(0, .ref a), (1, .ref x), (2, .ref ed), (3, .int (nI n))] [] μ := by
    intro hfull
    refine AW.sub (bc' := 1) (bs' := (2 * n + 10)) (by omega) (by omega) ?_
    first | refine aw_aload_n (i := 0) (q := 7) dJ2_add_2_6 rfl rfl rfl ?_ | refine aw_aloadN_n (i := 0) (q := 7) dJ2_add_2_6 rfl rfl rfl ?_ | refine aw_aloadQ_n (i := 0) (q := 7) dJ2_add_2_6 rfl rfl rfl ?_
    refine aw_callV (q := 10) dJ2_add_2_7 (C_AL_grow ha hfull ht hta htt hn hel) cv_J2_129_14 (by assumption) rfl rfl (by decide) (by decide) (by first | exact Nat.le_of_ble_eq_true rfl | simp [zcat_rf, Value.category]) rfl (fun v7 μ1 hp => ?_)
    obtain ⟨b, N, g, rfl, h1, h2, h3, h4, h5⟩ := hp
    have hab : a ≠ b := zneN ha h1
    have ha1 : μ1 a = some _ := h2 ▸ updM_eq _ _ _
    have hb1 : μ1 b = some _ := h2 ▸ (updM_ne (Ne.symm hab)).trans (updM_eq _ _ _)
    have hk1 : zKp (zTg t ta) μ μ1 := by rw [h2]; exact (zKp.new h1).tr (zKp.put ((updM_ne hab).trans ha) (Or.inl rfl))
    have hx1 : zOb μ1 x := by rw [h2]; exact (hx.new h1).put ca_14_J29
    first | refine aw_astore_n (i := 2) (q := 11) dJ2_add_2_10 rfl (by decide) rfl ?_ | refine aw_astoreN_n (i := 2) (q := 11) dJ2_add_2_10 rfl (by decide) rfl ?_ | refine aw_astoreQ_n (i := 2) (q := 11) dJ2_add_2_10 rfl (by decide) rfl ?_
    exact AW.bud (aw_locals (by exact ⟨rfl, rfl, rfl, rfl, trivial⟩) (last μ1 b N g ha1 hb1 h3 h4 h5 hx1 hk1)) (by omega) (by omega)
  rcases hA with ⟨h0, he⟩ | ⟨cap, g, hg, h1, h2, h3, h4⟩
  · have grow := grow (Or.inl ⟨h0, he⟩)
    refine meets_of (by decide +kernel) (Nat.le_of_ble_eq_true rfl) ?_
    refine aw_iload_n (i := 3) (q := 1) dJ2_add_2_0 rfl rfl rfl ?_
    first | refine aw_aload_n (i := 2) (q := 2) dJ2_add_2_1 rfl rfl rfl ?_ | refine aw_aloadN_n (i := 2) (q := 2) dJ2_add_2_1 rfl rfl rfl ?_ | refine aw_aloadQ_n (i := 2) (q := 2) dJ2_add_2_1 rfl rfl rfl ?_
    rw [he]
    refine aw_emptylen (q := 3) dJ2_add_2_2 rfl ?_
    refine aw_icmp_ne (tgt := 11) (q := 6) dJ2_add_2_3 (by decide) rfl (fun hZ => absurd ((by rw [h0]; rfl)) hZ) (fun _ => ?_)
    rw [← he]
    exact grow
  · refine meets_of (by decide +kernel) (Nat.le_of_ble_eq_true rfl) ?_
    refine aw_iload_n (i := 3) (q := 1) dJ2_add_2_0 rfl rfl rfl ?_
    first | refine aw_aload_n (i := 2) (q := 2) dJ2_add_2_1 rfl rfl rfl ?_ | refine aw_aloadN_n (i := 2) (q := 2) dJ2_add_2_1 rfl rfl rfl ?_ | refine aw_aloadQ_n (i := 2) (q := 2) dJ2_add_2_1 rfl rfl rfl ?_
    first | refine aw_alenI (q := 3) dJ2_add_2_2 (by assumption) rfl ?_ | refine aw_alenO (q := 3) dJ2_add_2_2 (by assumption) rfl ?_ | refine aw_alenN (q := 3) dJ2_add_2_2 (by assumption) rfl ?_ | refine aw_alenB (q := 3) dJ2_add_2_2 (by assumption) rfl ?_ | refine aw_alenP (q := 3) dJ2_add_2_2 (by assumption) rfl ?_
    by_cases hc : n = cap
    · have grow := grow (Or.inr ⟨g, by rw [hc]; exact hg, by omega, h4⟩)
      refine aw_icmp_ne (tgt := 11) (q := 6) dJ2_add_2_3 (by decide) rfl (fun hZ => absurd ((by rw [hc])) hZ) (fun _ => ?_)
      exact grow
    · skip
      refine aw_icmp_ne (tgt := 11) (q := 6) dJ2_add_2_3 (by decide) rfl (fun _ => ?_) (fun hZ => absurd hZ ((fun q => hc ((nI_eq (by omega) (by omega)).mp q))))
      refine AW.bud (bc' := 0) (bs' := 0) ?_ (by omega) (by omega)
      exact last μ ed cap g ha hg (by omega) h3 h4 hx zKp.rf
theorem C_AL_add {t ta : zT} {a n x : Nat} {mc : Int32} {f : Nat → Nat} (h : zAL G μ t ta a mc n f) (hx : zOb μ x) (ht : t ≠ zC) (hta : ta ≠ zC) (htt : t ≠ ta) (hn : n < 2 ^ 16) (hel : ∀ i, i < n → zOb μ (f i)) : Meets G 7 MJ2_add [.ref a, .ref x] μ (fun v μ' => v = some (.int 1) ∧ zAdded G μ t ta a (mc + 1) n f x μ') 1 (2 * n + 10) := by
  obtain ⟨ed, ha, hA⟩ := h
  have hA1 : ∀ μ1, zKp (fun c u => u = t) μ μ1 → zArr G μ1 ta ed n f := by
    intro μ1 hk
    rcases hA with q | ⟨cap, g, g1, g2⟩
    · exact Or.inl q
    · exact Or.inr ⟨cap, g, hk _ _ _ g1 (Ne.symm htt), g2⟩
  refine meets_of (by decide +kernel) (Nat.le_of_ble_eq_true rfl) ?_
  refine AW.sub (bc' := 1) (bs' := (2 * n + 10)) (by omega) (by omega) ?_
  first | refine aw_aload_n (i := 0) (q := 1) dJ2_add_0 rfl rfl rfl ?_ | refine aw_aloadN_n (i := 0) (q := 1) dJ2_add_0 rfl rfl rfl ?_ | refine aw_aloadQ_n (i := 0) (q := 1) dJ2_add_0 rfl rfl rfl ?_
  refine aw_dup (q := 2) dJ2_add_1 (by first | rfl | exact zcat_rf _) rfl ?_
  refine aw_getfield (q := 5) dJ2_add_2 gf_J2_63_14 (by assumption) rfl rfl ?_
  refine aw_iconst (v := 1) (q := 6) dJ2_add_5 rfl rfl ?_
  refine aw_iadd (q := 7) dJ2_add_6 rfl ?_
  refine aw_putfield (q := 10) dJ2_add_7 gf_J2_63_14 ha (by first | assumption | simp) (by first | rfl | exact znar_rf _ _) (by first | rfl | exact zfit_rf _ _) (Nat.le_of_ble_eq_true rfl) rfl (fun μ1 hg_μ1 => ?_)
  have ha : μ1 _ = some _ := hg_μ1 ▸ updM_eq _ _ _
  simp only [List.set] at ha hg_μ1
  have hk1 : zKp (fun c u => u = t) μ μ1 := hg_μ1 ▸ zKp.put (by assumption) rfl
  have hob : ∀ y, zOb μ y → zOb μ1 y := fun y hy => by rw [hg_μ1]; exact hy.put ca_14_J29
  first | refine aw_aload_n (i := 0) (q := 11) dJ2_add_10 rfl rfl rfl ?_ | refine aw_aloadN_n (i := 0) (q := 11) dJ2_add_10 rfl rfl rfl ?_ | refine aw_aloadQ_n (i := 0) (q := 11) dJ2_add_10 rfl rfl rfl ?_
  first | refine aw_aload_n (i := 1) (q := 12) dJ2_add_11 rfl rfl rfl ?_ | refine aw_aloadN_n (i := 1) (q := 12) dJ2_add_11 rfl rfl rfl ?_ | refine aw_aloadQ_n (i := 1) (q := 12) dJ2_add_11 rfl rfl rfl ?_
  first | refine aw_aload_n (i := 0) (q := 13) dJ2_add_12 rfl rfl rfl ?_ | refine aw_aloadN_n (i := 0) (q := 13) dJ2_add_12 rfl rfl rfl ?_ | refine aw_aloadQ_n (i := 0) (q := 13) dJ2_add_12 rfl rfl rfl ?_
  refine aw_getfield (q := 16) dJ2_add_13 gf_J2_9_14 (by assumption) rfl rfl ?_
  first | refine aw_aload_n (i := 0) (q := 17) dJ2_add_16 rfl rfl rfl ?_ | refine aw_aloadN_n (i := 0) (q := 17) dJ2_add_16 rfl rfl rfl ?_ | refine aw_aloadQ_n (i := 0) (q := 17) dJ2_add_16 rfl rfl rfl ?_
  refine aw_getfield (q := 20) dJ2_add_17 gf_J2_48_14 (by assumption) rfl rfl ?_
  refine aw_callV (q := 23) dJ2_add_20 (C_AL_add2 ha (hA1 μ1 hk1) (hob x hx) ht hta htt hn (fun i hi => hob _ (hel i hi))) cv_J2_131_14 (by assumption) rfl rfl (by decide) (by decide) (by first | exact Nat.le_of_ble_eq_true rfl | simp [zcat_rf, Value.category]) rfl (fun v20 μ2 hp => ?_)
  obtain ⟨rfl, h1, h2⟩ := hp
  refine aw_iconst (v := 1) (q := 24) dJ2_add_23 rfl rfl ?_
  exact aw_ireturn dJ2_add_24 rfl (by first | rfl | exact zB_nar _) (⟨rfl, h1, (hk1.mono (fun c u q => Or.inl q)).tr h2⟩)
theorem C_AL_fastRemove {t ta : zT} {a n ed cap k : Nat} {mc : Int32} {f : Nat → Nat} {g : Nat → Option Nat} (ha : μ a = some (t, oAL mc ed (n + 1))) (hg : μ ed = some (ta, aO G cap g)) (hcap : n + 1 ≤ cap) (hcap2 : cap < 2 ^ 20) (hi : ∀ i, i < n + 1 → g i = some (f i)) (hk : k < n + 1) (ht : t ≠ zC) (hta : ta ≠ zC) (htt : t ≠ ta) (hel : ∀ i, i < n + 1 → zOb μ (f i)) : Meets G 2 MJ2_fastRemove [.ref a, .ref ed, .int (nI k)] μ (fun v μ' => v = none ∧ zAL G μ' t ta a (mc + 1) n (fun i => if i < k then f i else f (i + 1)) ∧ zKp (zTg t ta) μ μ') 0 0 := by
  have ne : ed ≠ a := zneq hg ha (by simp [Ne.symm htt])
  have fin : ∀ (μ1 : zM) (g1 : Nat → Option Nat), μ1 a = some (t, oAL (mc + 1) ed (n + 1)) → μ1 ed = some (ta, aO G cap g1) → (∀ i, i < n → g1 i = some (if i < k then f i else f (i + 1))) → zKp (zTg t ta) μ μ1 → AW G 2 MJ2_fastRemove (fun v μ' => v = none ∧ zAL G μ' t ta a (mc + 1) n (fun i => if i < k then f i else f (i + 1)) ∧ zKp (zTg t ta) μ μ') 0 0 34 [(0, .ref a), (1, .ref ed), (2, .int (nI k)), (3, .int (nI n))] [] μ1 := by
    intro μ1 g1 ha hg hi hk
    have hd := hg
    have ha0 := ha
    first | refine aw_aload_n (i := 1) (q := 35) dJ2_fastRemove_34 rfl rfl rfl ?_ | refine aw_aloadN_n (i := 1) (q := 35) dJ2_fastRemove_34 rfl rfl rfl ?_ | refine aw_aloadQ_n (i := 1) (q := 35) dJ2_fastRemove_34 rfl rfl rfl ?_
    first | refine aw_aload_n (i := 0) (q := 36) dJ2_fastRemove_35 rfl rfl rfl ?_ | refine aw_aloadN_n (i := 0) (q := 36) dJ2_fastRemove_35 rfl rfl rfl ?_ | refine aw_aloadQ_n (i := 0) (q := 36) dJ2_fastRemove_35 rfl rfl rfl ?_
    refine aw_iload_n (i := 3) (q := 37) dJ2_fastRemove_36 rfl rfl rfl ?_
    refine aw_dup_x1 (q := 38) dJ2_fastRemove_37 (by first | rfl | exact zcat_rf _) (by first | rfl | exact zcat_rf _) rfl ?_
    refine aw_putfield (q := 41) dJ2_fastRemove_38 gf_J2_48_14 ha (by first | assumption | simp) (by first | rfl | exact znar_rf _ _) (by first | rfl | exact zfit_rf _ _) (Nat.le_of_ble_eq_true rfl) rfl (fun μ2 hg_μ2 => ?_)
    have hd : μ2 _ = some _ := hg_μ2 ▸ (updM_ne ne).trans hd
    have ha : μ2 _ = some _ := hg_μ2 ▸ updM_eq _ _ _
    simp only [List.set] at ha hg_μ2
    refine aw_null (q := 42) dJ2_fastRemove_41 rfl ?_
    refine aw_aastN (j := 3) (E := "java/lang/Object") n (q := 43) dJ2_fastRemove_42 rfl hd hta rfl (by omega) (by omega) rfl (fun μ3 hg_μ3 => ?_)
    have ha3 : μ3 a = some _ := hg_μ3 ▸ (updM_ne (Ne.symm ne)).trans ha
    have hd3 : μ3 ed = some _ := hg_μ3 ▸ updM_eq _ _ _
    exact aw_return dJ2_fastRemove_43 rfl (by refine ⟨rfl, ⟨ed, ha3, Or.inr ⟨cap, _, hd3, by omega, by omega, hcap2, fun i hi' => ?_⟩⟩, ?_⟩; (rw [va_up_ne _ _ (by omega)]; exact hi i hi'); (exact (hk.tr (hg_μ2 ▸ zKp.put ha0 (Or.inl rfl))).tr (hg_μ3 ▸ zKp.put hd (Or.inr rfl))))
  refine meets_of (by decide +kernel) (Nat.le_of_ble_eq_true rfl) ?_
  first | refine aw_aload_n (i := 0) (q := 1) dJ2_fastRemove_0 rfl rfl rfl ?_ | refine aw_aloadN_n (i := 0) (q := 1) dJ2_fastRemove_0 rfl rfl rfl ?_ | refine aw_aloadQ_n (i := 0) (q := 1) dJ2_fastRemove_0 rfl rfl rfl ?_
  refine aw_dup (q := 2) dJ2_fastRemove_1 (by first | rfl | exact zcat_rf _) rfl ?_
  refine aw_getfield (q := 5) dJ2_fastRemove_2 gf_J2_63_14 (by assumption) rfl rfl ?_
  refine aw_iconst (v := 1) (q := 6) dJ2_fastRemove_5 rfl rfl ?_
  refine aw_iadd (q := 7) dJ2_fastRemove_6 rfl ?_
  refine aw_putfield (q := 10) dJ2_fastRemove_7 gf_J2_63_14 ha (by first | assumption | simp) (by first | rfl | exact znar_rf _ _) (by first | rfl | exact zfit_rf _ _) (Nat.le_of_ble_eq_true rfl) rfl (fun μ1 hg_μ1 => ?_)
  have hg : μ1 _ = some _ := hg_μ1 ▸ (updM_ne ne).trans hg
  have ha : μ1 _ = some _ := hg_μ1 ▸ updM_eq _ _ _
  simp only [List.set] at ha hg_μ1
  have hob : ∀ y, zOb μ y → zOb μ1 y := fun y hy => by rw [hg_μ1]; exact hy.put ca_14_J29
  have hk1 : zKp (zTg t ta) μ μ1 := by rw [hg_μ1]; exact zKp.put (by assumption) (Or.inl rfl)
  first | refine aw_aload_n (i := 0) (q := 11) dJ2_fastRemove_10 rfl rfl rfl ?_ | refine aw_aloadN_n (i := 0) (q := 11) dJ2_fastRemove_10 rfl rfl rfl ?_ | refine aw_aloadQ_n (i := 0) (q := 11) dJ2_fastRemove_10 rfl rfl rfl ?_
  refine aw_getfield (q := 14) dJ2_fastRemove_11 gf_J2_48_14 (by assumption) rfl rfl ?_
  refine aw_iconst (v := 1) (q := 15) dJ2_fastRemove_14 rfl rfl ?_
  refine aw_isub (q := 16) dJ2_fastRemove_15 rfl ?_
  refine aw_dup (q := 17) dJ2_fastRemove_16 (by first | rfl | exact zcat_rf _) rfl ?_
  refine aw_istore_n (i := 3) (q := 18) dJ2_fastRemove_17 rfl (by decide) rfl ?_
  refine aw_iload_n (i := 2) (q := 19) dJ2_fastRemove_18 rfl rfl rfl ?_
  rw [nI_pred]
  by_cases hkn : k = n
  · subst hkn
    refine aw_icmp_le (tgt := 34) (q := 22) dJ2_fastRemove_19 (by decide) rfl (fun _ => ?_) (fun hZ => absurd (nI_le (Nat.le_refl _) (by omega)) hZ)
    exact AW.bud (aw_locals (by exact ⟨rfl, rfl, rfl, rfl, trivial⟩) (fin μ1 g ha hg (fun i hi' => by (rw [hi i (by omega), if_pos hi'])) hk1)) (by omega) (by omega)
  · skip
    refine aw_icmp_le (tgt := 34) (q := 22) dJ2_fastRemove_19 (by decide) rfl (fun hZ => absurd hZ (nI_ge (a := k) (b := n) (by omega) (by omega))) (fun _ => ?_)
    first | refine aw_aload_n (i := 1) (q := 23) dJ2_fastRemove_22 rfl rfl rfl ?_ | refine aw_aloadN_n (i := 1) (q := 23) dJ2_fastRemove_22 rfl rfl rfl ?_ | refine aw_aloadQ_n (i := 1) (q := 23) dJ2_fastRemove_22 rfl rfl rfl ?_
    refine aw_iload_n (i := 2) (q := 24) dJ2_fastRemove_23 rfl rfl rfl ?_
    refine aw_iconst (v := 1) (q := 25) dJ2_fastRemove_24 rfl rfl ?_
    refine aw_iadd (q := 26) dJ2_fastRemove_25 rfl ?_
    first | refine aw_aload_n (i := 1) (q := 27) dJ2_fastRemove_26 rfl rfl rfl ?_ | refine aw_aloadN_n (i := 1) (q := 27) dJ2_fastRemove_26 rfl rfl rfl ?_ | refine aw_aloadQ_n (i := 1) (q := 27) dJ2_fastRemove_26 rfl rfl rfl ?_
    refine aw_iload_n (i := 2) (q := 28) dJ2_fastRemove_27 rfl rfl rfl ?_
    refine aw_iload_n (i := 3) (q := 29) dJ2_fastRemove_28 rfl rfl rfl ?_
    refine aw_iload_n (i := 2) (q := 30) dJ2_fastRemove_29 rfl rfl rfl ?_
    refine aw_isub (q := 31) dJ2_fastRemove_30 rfl ?_
    rw [nI_1, pk_sub (by omega)]
    refine aw_copyq (j := 3) (sp := k + 1) (dp := k) (n := n - k) (q := 34) dJ2_fastRemove_31 cp_J2_112 rfl hg hg hta rfl rfl rfl (by omega) (by omega) (by omega) (by omega) (fun i hi' w hw => by rw [hi _ (by omega)] at hw; cases hw; exact hob _ (hel _ (by omega))) (by decide) (Nat.le_of_ble_eq_true rfl) rfl (fun μ2 hg_μ2 => ?_)
    have ha : μ2 _ = some _ := hg_μ2 ▸ (updM_ne (Ne.symm ne)).trans ha
    have hg : μ2 _ = some _ := hg_μ2 ▸ updM_eq _ _ _
    have hk2 : zKp (zTg t ta) μ1 μ2 := by rw [hg_μ2]; exact zKp.put (by assumption) (Or.inr rfl)
    exact AW.bud (aw_locals (by exact ⟨rfl, rfl, rfl, rfl, trivial⟩) (fin μ2 _ ha hg (fun i hi' => by (by_cases e : i < k; (rw [pk_cpy_out (Or.inl e), hi i (by omega), if_pos e]); (rw [pk_cpy_in (by omega) (by omega), hi _ (by omega), if_neg e, show k + 1 + (i - k) = i + 1 by omega]))) (hk1.tr hk2))) (by omega) (by omega)
theorem C_AL_remove {t ta : zT} {a n k : Nat} {mc : Int32} {f : Nat → Nat} (h : zAL G μ t ta a mc (n + 1) f) (hk : k < n + 1) (hn : n < 2 ^ 16) (ht : t ≠ zC) (hta : ta ≠ zC) (htt : t ≠ ta) (hel : ∀ i, i < n + 1 → zOb μ (f i)) : Meets G 3 MJ2_remove [.ref a, .int (nI k)] μ (fun v μ' => v = some (.ref (f k)) ∧ zAL G μ' t ta a (mc + 1) n (fun i => if i < k then f i else f (i + 1)) ∧ zKp (zTg t ta) μ μ') 0 0 := by
  obtain ⟨ed, ha, q | ⟨cap, g, hg, g2, g3, g4, g5⟩⟩ := h
  · omega
  refine meets_of (by decide +kernel) (Nat.le_of_ble_eq_true rfl) ?_
  refine aw_iload_n (i := 1) (q := 1) dJ2_remove_0 rfl rfl rfl ?_
  first | refine aw_aload_n (i := 0) (q := 2) dJ2_remove_1 rfl rfl rfl ?_ | refine aw_aloadN_n (i := 0) (q := 2) dJ2_remove_1 rfl rfl rfl ?_ | refine aw_aloadQ_n (i := 0) (q := 2) dJ2_remove_1 rfl rfl rfl ?_
  refine aw_getfield (q := 5) dJ2_remove_2 gf_J2_48_14 (by assumption) rfl rfl ?_
  refine aw_callS (q := 8) dJ2_remove_5 (C_checkIndex hk (by omega)) cs_J2_118 rfl rfl (by decide) (by decide) (by first | exact Nat.le_of_ble_eq_true rfl | simp [zcat_rf, Value.category]) rfl (zpk ?_)
  refine aw_pop (q := 9) dJ2_remove_8 (by first | rfl | exact zcat_rf _) rfl ?_
  first | refine aw_aload_n (i := 0) (q := 10) dJ2_remove_9 rfl rfl rfl ?_ | refine aw_aloadN_n (i := 0) (q := 10) dJ2_remove_9 rfl rfl rfl ?_ | refine aw_aloadQ_n (i := 0) (q := 10) dJ2_remove_9 rfl rfl rfl ?_
  refine aw_getfield (q := 13) dJ2_remove_10 gf_J2_9_14 (by assumption) rfl rfl ?_
  first | refine aw_astore_n (i := 2) (q := 14) dJ2_remove_13 rfl (by decide) rfl ?_ | refine aw_astoreN_n (i := 2) (q := 14) dJ2_remove_13 rfl (by decide) rfl ?_ | refine aw_astoreQ_n (i := 2) (q := 14) dJ2_remove_13 rfl (by decide) rfl ?_
  first | refine aw_aload_n (i := 2) (q := 15) dJ2_remove_14 rfl rfl rfl ?_ | refine aw_aloadN_n (i := 2) (q := 15) dJ2_remove_14 rfl rfl rfl ?_ | refine aw_aloadQ_n (i := 2) (q := 15) dJ2_remove_14 rfl rfl rfl ?_
  refine aw_iload_n (i := 1) (q := 16) dJ2_remove_15 rfl rfl rfl ?_
  first | refine aw_aaldO (q := 17) (v := some (f k)) (k) dJ2_remove_16 (by assumption) (by first | assumption | (simp only [← nI_add, ← pk_mul]; rfl) | rfl) (by omega) (by omega) (g5 k hk) rfl ?_ | refine aw_aaldP (q := 17) (v := some (f k)) (k) dJ2_remove_16 (by assumption) (by first | assumption | (simp only [← nI_add, ← pk_mul]; rfl) | rfl) (by omega) (by omega) (g5 k hk) rfl ?_ | refine aw_aaldN (q := 17) (v := some (f k)) (k) dJ2_remove_16 (by assumption) (by first | assumption | (simp only [← nI_add, ← pk_mul]; rfl) | rfl) (by omega) (by omega) (g5 k hk) rfl ?_
  first | refine aw_astore_n (i := 3) (q := 18) dJ2_remove_17 rfl (by decide) rfl ?_ | refine aw_astoreN_n (i := 3) (q := 18) dJ2_remove_17 rfl (by decide) rfl ?_ | refine aw_astoreQ_n (i := 3) (q := 18) dJ2_remove_17 rfl (by decide) rfl ?_
  first | refine aw_aload_n (i := 0) (q := 19) dJ2_remove_18 rfl rfl rfl ?_ | refine aw_aloadN_n (i := 0) (q := 19) dJ2_remove_18 rfl rfl rfl ?_ | refine aw_aloadQ_n (i := 0) (q := 19) dJ2_remove_18 rfl rfl rfl ?_
  first | refine aw_aload_n (i := 2) (q := 20) dJ2_remove_19 rfl rfl rfl ?_ | refine aw_aloadN_n (i := 2) (q := 20) dJ2_remove_19 rfl rfl rfl ?_ | refine aw_aloadQ_n (i := 2) (q := 20) dJ2_remove_19 rfl rfl rfl ?_
  refine aw_iload_n (i := 1) (q := 21) dJ2_remove_20 rfl rfl rfl ?_
  refine aw_callV (q := 24) dJ2_remove_21 (C_AL_fastRemove ha hg g2 g4 g5 hk ht hta htt hel) cv_J2_144_14 (by assumption) rfl rfl (by decide) (by decide) (by first | exact Nat.le_of_ble_eq_true rfl | simp [zcat_rf, Value.category]) rfl (fun v21 μ1 hp => ?_)
  obtain ⟨rfl, h1, h2⟩ := hp
  first | refine aw_aload_n (i := 3) (q := 25) dJ2_remove_24 rfl rfl rfl ?_ | refine aw_aloadN_n (i := 3) (q := 25) dJ2_remove_24 rfl rfl rfl ?_ | refine aw_aloadQ_n (i := 3) (q := 25) dJ2_remove_24 rfl rfl rfl ?_
  exact aw_areturnR dJ2_remove_25 rfl (by first | exact Or.inl ⟨_, rfl⟩ | exact Or.inr ⟨_, rfl⟩) (⟨rfl, h1, h2⟩)
/-- Integer: the cache's boxes -/
abbrev oInt (v : Int32) : va_E := .inr (12, [.int v])
theorem C_valueOf {k : Nat} (hk : k < 128) : Meets G 1 MJ17_valueOf [.int (nI k)] μ (zPure (.ref (G.2.2.2 (228 + k))) μ) 0 0 := by
  refine meets_of (by decide +kernel) (Nat.le_of_ble_eq_true rfl) ?_
  refine aw_iload_n (i := 0) (q := 1) dJ17_valueOf_0 rfl rfl rfl ?_
  refine aw_bipush (v := (-128)) (q := 3) dJ17_valueOf_1 rfl rfl ?_
  refine aw_icmp_lt (tgt := 23) (q := 6) dJ17_valueOf_3 (by decide) rfl (fun hZ => absurd hZ ((fun q => nI_pos (n := k) (by omega) (Int32.lt_trans q (by decide))))) (fun _ => ?_)
  refine aw_iload_n (i := 0) (q := 7) dJ17_valueOf_6 rfl rfl rfl ?_
  refine aw_getstatic (v := .int 127) (q := 10) dJ17_valueOf_7 gs_J17_191 (by simp [zStL]) rfl ?_
  refine aw_icmp_gt (tgt := 23) (q := 13) dJ17_valueOf_10 (by decide) rfl (fun hZ => absurd hZ ((fun q => absurd q (Int32.not_lt.mpr (nI_le (b := 127) (by omega) (by decide)))))) (fun _ => ?_)
  refine aw_getstatic (v := .ref (G.2.2.2 3)) (q := 16) dJ17_valueOf_13 gs_J17_195 (by simp [zStL]) rfl ?_
  refine aw_iload_n (i := 0) (q := 17) dJ17_valueOf_16 rfl rfl rfl ?_
  refine aw_sipush (v := 128) (q := 20) dJ17_valueOf_17 rfl rfl ?_
  refine aw_iadd (q := 21) dJ17_valueOf_20 rfl ?_
  rw [show nI k + 128 = nI (k + 128) from nI_add k 128]
  refine aw_cacheld (k + 128) (q := 22) dJ17_valueOf_21 rfl (by omega) rfl ?_
  rw [show 100 + (k + 128) = 228 + k by omega]
  exact aw_areturnR dJ17_valueOf_22 rfl (by first | exact Or.inl ⟨_, rfl⟩ | exact Or.inr ⟨_, rfl⟩) (⟨rfl, rfl⟩)
theorem zBox_c {k : Nat} : vb_c (k + 128) = nI k := by
  show nI (k + 128) - nI 128 = nI k
  rw [pk_sub (by omega), Nat.add_sub_cancel]
theorem C_intValue {a : Nat} {t : zT} {v : Int32} (ha : μ a = some (t, oInt v)) : Meets G 1 MJ17_intValue [.ref a] μ (zPure (.int v) μ) 0 0 := by
  refine meets_of (by decide +kernel) (Nat.le_of_ble_eq_true rfl) ?_
  first | refine aw_aload_n (i := 0) (q := 1) dJ17_intValue_0 rfl rfl rfl ?_ | refine aw_aloadN_n (i := 0) (q := 1) dJ17_intValue_0 rfl rfl rfl ?_ | refine aw_aloadQ_n (i := 0) (q := 1) dJ17_intValue_0 rfl rfl rfl ?_
  refine aw_getfield (q := 4) dJ17_intValue_1 gf_J17_205_12 (by assumption) rfl rfl ?_
  exact aw_ireturn dJ17_intValue_4 rfl (by first | rfl | exact zB_nar _) (⟨rfl, rfl⟩)
/-- Optional -/
abbrev oOpt (r : Option Nat) : va_E := .inr (18, [va_rf r])
theorem C_requireNonNull {x : Nat} : Meets G 1 MJ9_requireNonNull [.ref x] μ (zPure (.ref x) μ) 0 0 := by
  refine meets_of (by decide +kernel) (Nat.le_of_ble_eq_true rfl) ?_
  first | refine aw_aload_n (i := 0) (q := 1) dJ9_requireNonNull_0 rfl rfl rfl ?_ | refine aw_aloadN_n (i := 0) (q := 1) dJ9_requireNonNull_0 rfl rfl rfl ?_ | refine aw_aloadQ_n (i := 0) (q := 1) dJ9_requireNonNull_0 rfl rfl rfl ?_
  refine aw_ifnonnull_r (tgt := 12) dJ9_requireNonNull_1 (by decide) ?_
  first | refine aw_aload_n (i := 0) (q := 13) dJ9_requireNonNull_12 rfl rfl rfl ?_ | refine aw_aloadN_n (i := 0) (q := 13) dJ9_requireNonNull_12 rfl rfl rfl ?_ | refine aw_aloadQ_n (i := 0) (q := 13) dJ9_requireNonNull_12 rfl rfl rfl ?_
  exact aw_areturnR dJ9_requireNonNull_13 rfl (by first | exact Or.inl ⟨_, rfl⟩ | exact Or.inr ⟨_, rfl⟩) (⟨rfl, rfl⟩)
theorem C_Opt_init {a x : Nat} {t : zT} {y : Value} (ha : μ a = some (t, .inr (18, [y]))) (ht : t ≠ zC) : Meets G 2 MJ28_init [.ref a, .ref x] μ (fun v μ' => v = none ∧ μ' = updM μ a (t, .inr (18, [.ref x]))) 0 0 := by
  refine meets_of (by decide +kernel) (Nat.le_of_ble_eq_true rfl) ?_
  first | refine aw_aload_n (i := 0) (q := 1) dJ28_init_0 rfl rfl rfl ?_ | refine aw_aloadN_n (i := 0) (q := 1) dJ28_init_0 rfl rfl rfl ?_ | refine aw_aloadQ_n (i := 0) (q := 1) dJ28_init_0 rfl rfl rfl ?_
  refine aw_objInit (q := 4) dJ28_init_1 oi_J28_7 (by decide) (by first | exact Nat.le_of_ble_eq_true rfl | simp [zcat_rf, Value.category]) rfl ?_
  first | refine aw_aload_n (i := 0) (q := 5) dJ28_init_4 rfl rfl rfl ?_ | refine aw_aloadN_n (i := 0) (q := 5) dJ28_init_4 rfl rfl rfl ?_ | refine aw_aloadQ_n (i := 0) (q := 5) dJ28_init_4 rfl rfl rfl ?_
  first | refine aw_aload_n (i := 1) (q := 6) dJ28_init_5 rfl rfl rfl ?_ | refine aw_aloadN_n (i := 1) (q := 6) dJ28_init_5 rfl rfl rfl ?_ | refine aw_aloadQ_n (i := 1) (q := 6) dJ28_init_5 rfl rfl rfl ?_
  refine aw_putF (q := 9) dJ28_init_6 pf_J28_13_18 rfl ha (by first | assumption | simp) rfl rfl (Nat.le_of_ble_eq_true rfl) rfl (fun μ1 hg_μ1 => ?_)
  have ha : μ1 _ = some _ := hg_μ1 ▸ updM_eq _ _ _
  simp only [List.set] at ha hg_μ1
  exact aw_return dJ28_init_9 rfl (⟨rfl, hg_μ1⟩)
theorem C_Opt_of {x : Nat} {u : zT} (hu : u ≠ zC) : Meets G 3 MJ28_of [.ref x] μ (fun v μ' => ∃ a, v = some (.ref a) ∧ μ a = none ∧ μ' = updM μ a (u, .inr (18, [.ref x]))) 1 1 := by
  refine meets_of (by decide +kernel) (Nat.le_of_ble_eq_true rfl) ?_
  refine AW.sub (bc' := 1) (bs' := 1) (by omega) (by omega) ?_
  refine aw_new (q := 3) dJ28_of_0 nw_J28_2 u (by first | assumption | simp) rfl (fun a μ1 hn_a hg_μ1 => ?_)
  have h_a : μ1 a = some _ := hg_μ1 ▸ updM_eq _ _ _
  refine aw_dup (q := 4) dJ28_of_3 (by first | rfl | exact zcat_rf _) rfl ?_
  first | refine aw_aload_n (i := 0) (q := 5) dJ28_of_4 rfl rfl rfl ?_ | refine aw_aloadN_n (i := 0) (q := 5) dJ28_of_4 rfl rfl rfl ?_ | refine aw_aloadQ_n (i := 0) (q := 5) dJ28_of_4 rfl rfl rfl ?_
  refine aw_callS (q := 8) dJ28_of_5 (C_requireNonNull) cs_J28_17 rfl rfl (by decide) (by decide) (by first | exact Nat.le_of_ble_eq_true rfl | simp [zcat_rf, Value.category]) rfl (zpk ?_)
  refine aw_callI (q := 11) dJ28_of_8 (C_Opt_init h_a hu) ci_J28_23 rfl rfl (by decide) (by decide) (by first | exact Nat.le_of_ble_eq_true rfl | simp [zcat_rf, Value.category]) rfl (fun v8 μ2 hp => ?_)
  obtain ⟨rfl, hg⟩ := hp
  exact aw_areturnR dJ28_of_11 rfl (by first | exact Or.inl ⟨_, rfl⟩ | exact Or.inr ⟨_, rfl⟩) (by exact ⟨a, rfl, hn_a, by rw [hg, hg_μ1, updM_twice]⟩)
theorem C_Opt_empty : Meets G 1 MJ28_empty [] μ (fun v μ' => v = some (.ref (G.2.2.2 1)) ∧ μ' = μ ∧ μ (G.2.2.2 1) = some (zC, .inr (18, [.null]))) 0 0 := by
  refine meets_of (by decide +kernel) (Nat.le_of_ble_eq_true rfl) ?_
  refine aw_const (fun hcst => ?_)
  refine aw_getstatic (v := .ref (G.2.2.2 1)) (q := 3) dJ28_empty_0 gs_J28_1 (by simp [zStL]) rfl ?_
  first | refine aw_astore_n (i := 0) (q := 4) dJ28_empty_3 rfl (by decide) rfl ?_ | refine aw_astoreN_n (i := 0) (q := 4) dJ28_empty_3 rfl (by decide) rfl ?_ | refine aw_astoreQ_n (i := 0) (q := 4) dJ28_empty_3 rfl (by decide) rfl ?_
  first | refine aw_aload_n (i := 0) (q := 5) dJ28_empty_4 rfl rfl rfl ?_ | refine aw_aloadN_n (i := 0) (q := 5) dJ28_empty_4 rfl rfl rfl ?_ | refine aw_aloadQ_n (i := 0) (q := 5) dJ28_empty_4 rfl rfl rfl ?_
  exact aw_areturnR dJ28_empty_5 rfl (by first | exact Or.inl ⟨_, rfl⟩ | exact Or.inr ⟨_, rfl⟩) (⟨rfl, rfl, hcst _ _ (Or.inr ⟨rfl, rfl⟩)⟩)
theorem C_Opt_isPresent {a x : Nat} {t : zT} (ha : μ a = some (t, .inr (18, [.ref x]))) : Meets G 1 MJ28_isPresent [.ref a] μ (zPure (.int 1) μ) 0 0 := by
  refine meets_of (by decide +kernel) (Nat.le_of_ble_eq_true rfl) ?_
  first | refine aw_aload_n (i := 0) (q := 1) dJ28_isPresent_0 rfl rfl rfl ?_ | refine aw_aloadN_n (i := 0) (q := 1) dJ28_isPresent_0 rfl rfl rfl ?_ | refine aw_aloadQ_n (i := 0) (q := 1) dJ28_isPresent_0 rfl rfl rfl ?_
  refine aw_getfield (q := 4) dJ28_isPresent_1 gf_J28_13_18 (by assumption) rfl rfl ?_
  refine aw_ifnull_r (q := 7) dJ28_isPresent_4 rfl ?_
  refine aw_iconst (v := 1) (q := 8) dJ28_isPresent_7 rfl rfl ?_
  refine aw_goto (tgt := 12) dJ28_isPresent_8 (by decide) ?_
  exact aw_ireturn dJ28_isPresent_12 rfl (by first | rfl | exact zB_nar _) (⟨rfl, rfl⟩)
theorem C_Opt_isPresentN {a : Nat} {t : zT} (ha : μ a = some (t, .inr (18, [.null]))) : Meets G 1 MJ28_isPresent [.ref a] μ (zPure (.int 0) μ) 0 0 := by
  refine meets_of (by decide +kernel) (Nat.le_of_ble_eq_true rfl) ?_
  first | refine aw_aload_n (i := 0) (q := 1) dJ28_isPresent_0 rfl rfl rfl ?_ | refine aw_aloadN_n (i := 0) (q := 1) dJ28_isPresent_0 rfl rfl rfl ?_ | refine aw_aloadQ_n (i := 0) (q := 1) dJ28_isPresent_0 rfl rfl rfl ?_
  refine aw_getfield (q := 4) dJ28_isPresent_1 gf_J28_13_18 (by assumption) rfl rfl ?_
  refine aw_ifnull_n (tgt := 11) dJ28_isPresent_4 (by decide) ?_
  refine aw_iconst (v := 0) (q := 12) dJ28_isPresent_11 rfl rfl ?_
  exact aw_ireturn dJ28_isPresent_12 rfl (by first | rfl | exact zB_nar _) (⟨rfl, rfl⟩)
theorem C_Opt_isEmpty {a x : Nat} {t : zT} (ha : μ a = some (t, .inr (18, [.ref x]))) : Meets G 1 MJ28_isEmpty [.ref a] μ (zPure (.int 0) μ) 0 0 := by
  refine meets_of (by decide +kernel) (Nat.le_of_ble_eq_true rfl) ?_
  first | refine aw_aload_n (i := 0) (q := 1) dJ28_isEmpty_0 rfl rfl rfl ?_ | refine aw_aloadN_n (i := 0) (q := 1) dJ28_isEmpty_0 rfl rfl rfl ?_ | refine aw_aloadQ_n (i := 0) (q := 1) dJ28_isEmpty_0 rfl rfl rfl ?_
  refine aw_getfield (q := 4) dJ28_isEmpty_1 gf_J28_13_18 (by assumption) rfl rfl ?_
  refine aw_ifnonnull_r (tgt := 11) dJ28_isEmpty_4 (by decide) ?_
  refine aw_iconst (v := 0) (q := 12) dJ28_isEmpty_11 rfl rfl ?_
  exact aw_ireturn dJ28_isEmpty_12 rfl (by first | rfl | exact zB_nar _) (⟨rfl, rfl⟩)
theorem C_Opt_isEmptyN {a : Nat} {t : zT} (ha : μ a = some (t, .inr (18, [.null]))) : Meets G 1 MJ28_isEmpty [.ref a] μ (zPure (.int 1) μ) 0 0 := by
  refine meets_of (by decide +kernel) (Nat.le_of_ble_eq_true rfl) ?_
  first | refine aw_aload_n (i := 0) (q := 1) dJ28_isEmpty_0 rfl rfl rfl ?_ | refine aw_aloadN_n (i := 0) (q := 1) dJ28_isEmpty_0 rfl rfl rfl ?_ | refine aw_aloadQ_n (i := 0) (q := 1) dJ28_isEmpty_0 rfl rfl rfl ?_
  refine aw_getfield (q := 4) dJ28_isEmpty_1 gf_J28_13_18 (by assumption) rfl rfl ?_
  refine aw_ifnonnull_n (q := 7) dJ28_isEmpty_4 rfl ?_
  refine aw_iconst (v := 1) (q := 8) dJ28_isEmpty_7 rfl rfl ?_
  refine aw_goto (tgt := 12) dJ28_isEmpty_8 (by decide) ?_
  exact aw_ireturn dJ28_isEmpty_12 rfl (by first | rfl | exact zB_nar _) (⟨rfl, rfl⟩)
theorem C_Opt_get {a x : Nat} {t : zT} (ha : μ a = some (t, .inr (18, [.ref x]))) : Meets G 1 MJ28_get [.ref a] μ (zPure (.ref x) μ) 0 0 := by
  refine meets_of (by decide +kernel) (Nat.le_of_ble_eq_true rfl) ?_
  first | refine aw_aload_n (i := 0) (q := 1) dJ28_get_0 rfl rfl rfl ?_ | refine aw_aloadN_n (i := 0) (q := 1) dJ28_get_0 rfl rfl rfl ?_ | refine aw_aloadQ_n (i := 0) (q := 1) dJ28_get_0 rfl rfl rfl ?_
  refine aw_getfield (q := 4) dJ28_get_1 gf_J28_13_18 (by assumption) rfl rfl ?_
  refine aw_ifnonnull_r (tgt := 17) dJ28_get_4 (by decide) ?_
  first | refine aw_aload_n (i := 0) (q := 18) dJ28_get_17 rfl rfl rfl ?_ | refine aw_aloadN_n (i := 0) (q := 18) dJ28_get_17 rfl rfl rfl ?_ | refine aw_aloadQ_n (i := 0) (q := 18) dJ28_get_17 rfl rfl rfl ?_
  refine aw_getfield (q := 21) dJ28_get_18 gf_J28_13_18 (by assumption) rfl rfl ?_
  exact aw_areturnR dJ28_get_21 rfl (by first | exact Or.inl ⟨_, rfl⟩ | exact Or.inr ⟨_, rfl⟩) (⟨rfl, rfl⟩)
end ZAL
