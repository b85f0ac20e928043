/-! LEAF classes: Time, Kind, Lamp; numbers of rows -/
set_option maxRecDepth 100000
theorem updM_twice (μ : zM) (a : Nat) (x y : zT × va_E) : updM (updM μ a x) a y = updM μ a y := by
  funext b; by_cases hb : b = a <;> simp [updM, hb]
theorem updM_comm {μ : zM} {a b : Nat} (x y : zT × va_E) (h : a ≠ b) : updM (updM μ a x) b y = updM (updM μ b y) a x := by
  funext c
  by_cases h1 : c = a
  · subst h1; simp [updM, h]
  · by_cases h2 : c = b
    · subst h2; simp [updM, h1]
    · simp [updM, h1, h2]
section ZLEAF
variable {G : zG} {μ : zM}
/-- Time -/
abbrev oTime (day slot : Int32) : va_E := .inr (8, [.int day, .int slot])
theorem C_Time_init {a : Nat} {t : zT} {x y d s : Int32} (ha : μ a = some (t, oTime x y)) (ht : t ≠ zC) : Meets G 2 MX8_init [.ref a, .int d, .int s] μ (fun v μ' => v = none ∧ μ' = updM μ a (t, oTime d s)) 0 0 := by
  refine meets_of (by decide +kernel) (Nat.le_of_ble_eq_true rfl) ?_
  first | refine aw_aload_n (i := 0) (q := 1) dX8_init_0 rfl rfl rfl ?_ | refine aw_aloadN_n (i := 0) (q := 1) dX8_init_0 rfl rfl rfl ?_ | refine aw_aloadQ_n (i := 0) (q := 1) dX8_init_0 rfl rfl rfl ?_
  refine aw_objInit (q := 4) dX8_init_1 oi_X8_3 (by decide) (by first | exact Nat.le_of_ble_eq_true rfl | simp [zcat_rf, Value.category]) rfl ?_
  first | refine aw_aload_n (i := 0) (q := 5) dX8_init_4 rfl rfl rfl ?_ | refine aw_aloadN_n (i := 0) (q := 5) dX8_init_4 rfl rfl rfl ?_ | refine aw_aloadQ_n (i := 0) (q := 5) dX8_init_4 rfl rfl rfl ?_
  refine aw_iload_n (i := 1) (q := 6) dX8_init_5 rfl rfl rfl ?_
  refine aw_putF (q := 9) dX8_init_6 pf_X8_9_8 rfl ha (by first | assumption | simp) rfl rfl (Nat.le_of_ble_eq_true rfl) rfl (fun μ1 hg_μ1 => ?_)
  have ha : μ1 _ = some _ := hg_μ1 ▸ updM_eq _ _ _
  simp only [List.set] at ha hg_μ1
  first | refine aw_aload_n (i := 0) (q := 10) dX8_init_9 rfl rfl rfl ?_ | refine aw_aloadN_n (i := 0) (q := 10) dX8_init_9 rfl rfl rfl ?_ | refine aw_aloadQ_n (i := 0) (q := 10) dX8_init_9 rfl rfl rfl ?_
  refine aw_iload_n (i := 2) (q := 11) dX8_init_10 rfl rfl rfl ?_
  refine aw_putF (q := 14) dX8_init_11 pf_X8_15_8 rfl ha (by first | assumption | simp) rfl rfl (Nat.le_of_ble_eq_true rfl) rfl (fun μ2 hg_μ2 => ?_)
  have ha : μ2 _ = some _ := hg_μ2 ▸ updM_eq _ _ _
  simp only [List.set] at ha hg_μ2
  exact aw_return dX8_init_14 rfl (by refine ⟨rfl, ?_⟩; subst hg_μ2 hg_μ1; simp only [updM_twice])
/-- Kind -/
abbrev oKind (wear least price : Int32) : va_E := .inr (3, [.int wear, .int least, .int price])
theorem C_Kind_init2 {a : Nat} {t : zT} {x y z w l c : Int32} (ha : μ a = some (t, oKind x y z)) (ht : t ≠ zC) : Meets G 2 MX3_init_2 [.ref a, .int w, .int l, .int c] μ (fun v μ' => v = none ∧ μ' = updM μ a (t, oKind w l c)) 0 0 := by
  refine meets_of (by decide +kernel) (Nat.le_of_ble_eq_true rfl) ?_
  first | refine aw_aload_n (i := 0) (q := 1) dX3_init_2_0 rfl rfl rfl ?_ | refine aw_aloadN_n (i := 0) (q := 1) dX3_init_2_0 rfl rfl rfl ?_ | refine aw_aloadQ_n (i := 0) (q := 1) dX3_init_2_0 rfl rfl rfl ?_
  refine aw_objInit (q := 4) dX3_init_2_1 oi_X3_1 (by decide) (by first | exact Nat.le_of_ble_eq_true rfl | simp [zcat_rf, Value.category]) rfl ?_
  first | refine aw_aload_n (i := 0) (q := 5) dX3_init_2_4 rfl rfl rfl ?_ | refine aw_aloadN_n (i := 0) (q := 5) dX3_init_2_4 rfl rfl rfl ?_ | refine aw_aloadQ_n (i := 0) (q := 5) dX3_init_2_4 rfl rfl rfl ?_
  refine aw_iload_n (i := 1) (q := 6) dX3_init_2_5 rfl rfl rfl ?_
  refine aw_putF (q := 9) dX3_init_2_6 pf_X3_7_3 rfl ha (by first | assumption | simp) rfl rfl (Nat.le_of_ble_eq_true rfl) rfl (fun μ1 hg_μ1 => ?_)
  have ha : μ1 _ = some _ := hg_μ1 ▸ updM_eq _ _ _
  simp only [List.set] at ha hg_μ1
  first | refine aw_aload_n (i := 0) (q := 10) dX3_init_2_9 rfl rfl rfl ?_ | refine aw_aloadN_n (i := 0) (q := 10) dX3_init_2_9 rfl rfl rfl ?_ | refine aw_aloadQ_n (i := 0) (q := 10) dX3_init_2_9 rfl rfl rfl ?_
  refine aw_iload_n (i := 2) (q := 11) dX3_init_2_10 rfl rfl rfl ?_
  refine aw_putF (q := 14) dX3_init_2_11 pf_X3_13_3 rfl ha (by first | assumption | simp) rfl rfl (Nat.le_of_ble_eq_true rfl) rfl (fun μ2 hg_μ2 => ?_)
  have ha : μ2 _ = some _ := hg_μ2 ▸ updM_eq _ _ _
  simp only [List.set] at ha hg_μ2
  first | refine aw_aload_n (i := 0) (q := 15) dX3_init_2_14 rfl rfl rfl ?_ | refine aw_aloadN_n (i := 0) (q := 15) dX3_init_2_14 rfl rfl rfl ?_ | refine aw_aloadQ_n (i := 0) (q := 15) dX3_init_2_14 rfl rfl rfl ?_
  refine aw_iload_n (i := 3) (q := 16) dX3_init_2_15 rfl rfl rfl ?_
  refine aw_putfield (q := 19) dX3_init_2_16 gf_X3_16_3 ha (by first | assumption | simp) (by first | rfl | exact znar_rf _ _) (by first | rfl | exact zfit_rf _ _) (Nat.le_of_ble_eq_true rfl) rfl (fun μ3 hg_μ3 => ?_)
  have ha : μ3 _ = some _ := hg_μ3 ▸ updM_eq _ _ _
  simp only [List.set] at ha hg_μ3
  exact aw_return dX3_init_2_19 rfl (by refine ⟨rfl, ?_⟩; subst hg_μ3 hg_μ2 hg_μ1; simp only [updM_twice])
theorem C_Kind_init {a b : Nat} {t t' : zT} {x y z w l c : Int32} (ha : μ a = some (t, oKind x y z)) (ht : t ≠ zC) (hb : μ b = some (t', oKind w l c)) : Meets G 3 MX3_init [.ref a, .ref b] μ (fun v μ' => v = none ∧ μ' = updM μ a (t, oKind w l c)) 0 0 := by
  refine meets_of (by decide +kernel) (Nat.le_of_ble_eq_true rfl) ?_
  first | refine aw_aload_n (i := 0) (q := 1) dX3_init_0 rfl rfl rfl ?_ | refine aw_aloadN_n (i := 0) (q := 1) dX3_init_0 rfl rfl rfl ?_ | refine aw_aloadQ_n (i := 0) (q := 1) dX3_init_0 rfl rfl rfl ?_
  first | refine aw_aload_n (i := 1) (q := 2) dX3_init_1 rfl rfl rfl ?_ | refine aw_aloadN_n (i := 1) (q := 2) dX3_init_1 rfl rfl rfl ?_ | refine aw_aloadQ_n (i := 1) (q := 2) dX3_init_1 rfl rfl rfl ?_
  refine aw_getfield (q := 5) dX3_init_2 gf_X3_7_3 (by assumption) rfl rfl ?_
  first | refine aw_aload_n (i := 1) (q := 6) dX3_init_5 rfl rfl rfl ?_ | refine aw_aloadN_n (i := 1) (q := 6) dX3_init_5 rfl rfl rfl ?_ | refine aw_aloadQ_n (i := 1) (q := 6) dX3_init_5 rfl rfl rfl ?_
  refine aw_getfield (q := 9) dX3_init_6 gf_X3_13_3 (by assumption) rfl rfl ?_
  first | refine aw_aload_n (i := 1) (q := 10) dX3_init_9 rfl rfl rfl ?_ | refine aw_aloadN_n (i := 1) (q := 10) dX3_init_9 rfl rfl rfl ?_ | refine aw_aloadQ_n (i := 1) (q := 10) dX3_init_9 rfl rfl rfl ?_
  refine aw_getfield (q := 13) dX3_init_10 gf_X3_16_3 (by assumption) rfl rfl ?_
  refine aw_callI (q := 16) dX3_init_13 (C_Kind_init2 ha ht) ci_X3_19 rfl rfl (by decide) (by decide) (by first | exact Nat.le_of_ble_eq_true rfl | simp [zcat_rf, Value.category]) rfl (fun v13 μ1 hp => ?_)
  obtain ⟨rfl, rfl⟩ := hp
  exact aw_return dX3_init_16 rfl (⟨rfl, rfl⟩)
/-- Lamp -/
abbrev oLamp (life used place : Int32) : va_E := .inr (4, [.int life, .int used, .int place])
theorem C_Lamp_init2 {a : Nat} {t : zT} {x y w : Int32} (ha : μ a = some (t, oLamp x y w)) (ht : t ≠ zC) (l : Int32) : Meets G 2 MX4_init_2 [.ref a, .int l] μ (fun v μ' => v = none ∧ μ' = updM μ a (t, oLamp l y 0)) 0 0 := by
  refine meets_of (by decide +kernel) (Nat.le_of_ble_eq_true rfl) ?_
  first | refine aw_aload_n (i := 0) (q := 1) dX4_init_2_0 rfl rfl rfl ?_ | refine aw_aloadN_n (i := 0) (q := 1) dX4_init_2_0 rfl rfl rfl ?_ | refine aw_aloadQ_n (i := 0) (q := 1) dX4_init_2_0 rfl rfl rfl ?_
  refine aw_objInit (q := 4) dX4_init_2_1 oi_X4_3 (by decide) (by first | exact Nat.le_of_ble_eq_true rfl | simp [zcat_rf, Value.category]) rfl ?_
  first | refine aw_aload_n (i := 0) (q := 5) dX4_init_2_4 rfl rfl rfl ?_ | refine aw_aloadN_n (i := 0) (q := 5) dX4_init_2_4 rfl rfl rfl ?_ | refine aw_aloadQ_n (i := 0) (q := 5) dX4_init_2_4 rfl rfl rfl ?_
  refine aw_iconst (v := 0) (q := 6) dX4_init_2_5 rfl rfl ?_
  refine aw_putfield (q := 9) dX4_init_2_6 gf_X4_9_4 ha (by first | assumption | simp) (by first | rfl | exact znar_rf _ _) (by first | rfl | exact zfit_rf _ _) (Nat.le_of_ble_eq_true rfl) rfl (fun μ1 hg_μ1 => ?_)
  have ha : μ1 _ = some _ := hg_μ1 ▸ updM_eq _ _ _
  simp only [List.set] at ha hg_μ1
  first | refine aw_aload_n (i := 0) (q := 10) dX4_init_2_9 rfl rfl rfl ?_ | refine aw_aloadN_n (i := 0) (q := 10) dX4_init_2_9 rfl rfl rfl ?_ | refine aw_aloadQ_n (i := 0) (q := 10) dX4_init_2_9 rfl rfl rfl ?_
  refine aw_iload_n (i := 1) (q := 11) dX4_init_2_10 rfl rfl rfl ?_
  refine aw_putF (q := 14) dX4_init_2_11 pf_X4_15_4 rfl ha (by first | assumption | simp) rfl rfl (Nat.le_of_ble_eq_true rfl) rfl (fun μ2 hg_μ2 => ?_)
  have ha : μ2 _ = some _ := hg_μ2 ▸ updM_eq _ _ _
  simp only [List.set] at ha hg_μ2
  exact aw_return dX4_init_2_14 rfl (by refine ⟨rfl, ?_⟩; subst hg_μ2 hg_μ1; simp only [updM_twice])
theorem C_Lamp_init {a b : Nat} {t t' : zT} {x y z l u p : Int32} (ha : μ a = some (t, oLamp x y z)) (ht : t ≠ zC) (hb : μ b = some (t', oLamp l u p)) (hne : b ≠ a) : Meets G 3 MX4_init [.ref a, .ref b] μ (fun v μ' => v = none ∧ μ' = updM μ a (t, oLamp l u p)) 0 0 := by
  refine meets_of (by decide +kernel) (Nat.le_of_ble_eq_true rfl) ?_
  first | refine aw_aload_n (i := 0) (q := 1) dX4_init_0 rfl rfl rfl ?_ | refine aw_aloadN_n (i := 0) (q := 1) dX4_init_0 rfl rfl rfl ?_ | refine aw_aloadQ_n (i := 0) (q := 1) dX4_init_0 rfl rfl rfl ?_
  first | refine aw_aload_n (i := 1) (q := 2) dX4_init_1 rfl rfl rfl ?_ | refine aw_aloadN_n (i := 1) (q := 2) dX4_init_1 rfl rfl rfl ?_ | refine aw_aloadQ_n (i := 1) (q := 2) dX4_init_1 rfl rfl rfl ?_
  refine aw_getfield (q := 5) dX4_init_2 gf_X4_15_4 (by assumption) rfl rfl ?_
  refine aw_callI (q := 8) dX4_init_5 (C_Lamp_init2 ha ht _) ci_X4_18 rfl rfl (by decide) (by decide) (by first | exact Nat.le_of_ble_eq_true rfl | simp [zcat_rf, Value.category]) rfl (fun v5 μ1 hp => ?_)
  obtain ⟨rfl, hg⟩ := hp
  have hb : μ1 b = _ := hg ▸ (updM_ne hne).trans hb
  have ha : μ1 a = _ := hg ▸ updM_eq _ _ _
  first | refine aw_aload_n (i := 0) (q := 9) dX4_init_8 rfl rfl rfl ?_ | refine aw_aloadN_n (i := 0) (q := 9) dX4_init_8 rfl rfl rfl ?_ | refine aw_aloadQ_n (i := 0) (q := 9) dX4_init_8 rfl rfl rfl ?_
  first | refine aw_aload_n (i := 1) (q := 10) dX4_init_9 rfl rfl rfl ?_ | refine aw_aloadN_n (i := 1) (q := 10) dX4_init_9 rfl rfl rfl ?_ | refine aw_aloadQ_n (i := 1) (q := 10) dX4_init_9 rfl rfl rfl ?_
  refine aw_getfield (q := 13) dX4_init_10 gf_X4_21_4 (by assumption) rfl rfl ?_
  refine aw_putfield (q := 16) dX4_init_13 gf_X4_21_4 ha (by first | assumption | simp) (by first | rfl | exact znar_rf _ _) (by first | rfl | exact zfit_rf _ _) (Nat.le_of_ble_eq_true rfl) rfl (fun μ2 hg_μ2 => ?_)
  have hb : μ2 _ = some _ := hg_μ2 ▸ (updM_ne hne).trans hb
  have ha : μ2 _ = some _ := hg_μ2 ▸ updM_eq _ _ _
  simp only [List.set] at ha hg_μ2
  first | refine aw_aload_n (i := 0) (q := 17) dX4_init_16 rfl rfl rfl ?_ | refine aw_aloadN_n (i := 0) (q := 17) dX4_init_16 rfl rfl rfl ?_ | refine aw_aloadQ_n (i := 0) (q := 17) dX4_init_16 rfl rfl rfl ?_
  first | refine aw_aload_n (i := 1) (q := 18) dX4_init_17 rfl rfl rfl ?_ | refine aw_aloadN_n (i := 1) (q := 18) dX4_init_17 rfl rfl rfl ?_ | refine aw_aloadQ_n (i := 1) (q := 18) dX4_init_17 rfl rfl rfl ?_
  refine aw_getfield (q := 21) dX4_init_18 gf_X4_9_4 (by assumption) rfl rfl ?_
  refine aw_putfield (q := 24) dX4_init_21 gf_X4_9_4 ha (by first | assumption | simp) (by first | rfl | exact znar_rf _ _) (by first | rfl | exact zfit_rf _ _) (Nat.le_of_ble_eq_true rfl) rfl (fun μ3 hg_μ3 => ?_)
  have hb : μ3 _ = some _ := hg_μ3 ▸ (updM_ne hne).trans hb
  have ha : μ3 _ = some _ := hg_μ3 ▸ updM_eq _ _ _
  simp only [List.set] at ha hg_μ3
  exact aw_return dX4_init_24 rfl (by refine ⟨rfl, ?_⟩; subst hg_μ3 hg_μ2 hg; simp only [updM_twice])
def zBright (life used : Int32) : Int32 := if used < life then 100 - 60 * used / life else 0
theorem C_Lamp_brightness {a : Nat} {t : zT} {l u p : Int32} (ha : μ a = some (t, oLamp l u p)) (hl : l ≠ 0) : Meets G 1 MX4_brightness [.ref a] μ (zPure (.int (zBright l u)) μ) 0 0 := by
  refine meets_of (by decide +kernel) (Nat.le_of_ble_eq_true rfl) ?_
  first | refine aw_aload_n (i := 0) (q := 1) dX4_brightness_0 rfl rfl rfl ?_ | refine aw_aloadN_n (i := 0) (q := 1) dX4_brightness_0 rfl rfl rfl ?_ | refine aw_aloadQ_n (i := 0) (q := 1) dX4_brightness_0 rfl rfl rfl ?_
  refine aw_getfield (q := 4) dX4_brightness_1 gf_X4_21_4 (by assumption) rfl rfl ?_
  first | refine aw_aload_n (i := 0) (q := 5) dX4_brightness_4 rfl rfl rfl ?_ | refine aw_aloadN_n (i := 0) (q := 5) dX4_brightness_4 rfl rfl rfl ?_ | refine aw_aloadQ_n (i := 0) (q := 5) dX4_brightness_4 rfl rfl rfl ?_
  refine aw_getfield (q := 8) dX4_brightness_5 gf_X4_15_4 (by assumption) rfl rfl ?_
  refine aw_icmp_lt (tgt := 15) (q := 11) dX4_brightness_8 (by decide) rfl (fun hc => ?_) (fun hc => ?_)
  · refine aw_bipush (v := 100) (q := 17) dX4_brightness_15 rfl rfl ?_
    refine aw_bipush (v := 60) (q := 19) dX4_brightness_17 rfl rfl ?_
    first | refine aw_aload_n (i := 0) (q := 20) dX4_brightness_19 rfl rfl rfl ?_ | refine aw_aloadN_n (i := 0) (q := 20) dX4_brightness_19 rfl rfl rfl ?_ | refine aw_aloadQ_n (i := 0) (q := 20) dX4_brightness_19 rfl rfl rfl ?_
    refine aw_getfield (q := 23) dX4_brightness_20 gf_X4_21_4 (by assumption) rfl rfl ?_
    refine aw_imul (q := 24) dX4_brightness_23 rfl ?_
    first | refine aw_aload_n (i := 0) (q := 25) dX4_brightness_24 rfl rfl rfl ?_ | refine aw_aloadN_n (i := 0) (q := 25) dX4_brightness_24 rfl rfl rfl ?_ | refine aw_aloadQ_n (i := 0) (q := 25) dX4_brightness_24 rfl rfl rfl ?_
    refine aw_getfield (q := 28) dX4_brightness_25 gf_X4_15_4 (by assumption) rfl rfl ?_
    refine aw_idiv (q := 29) dX4_brightness_28 (hl) rfl ?_
    refine aw_isub (q := 30) dX4_brightness_29 rfl ?_
    exact aw_ireturn dX4_brightness_30 rfl rfl (by refine ⟨?_, rfl⟩; simp only [zBright, if_pos hc])
  · refine aw_iconst (v := 0) (q := 12) dX4_brightness_11 rfl rfl ?_
    refine aw_goto (tgt := 30) dX4_brightness_12 (by decide) ?_
    exact aw_ireturn dX4_brightness_30 rfl rfl (by refine ⟨?_, rfl⟩; simp only [zBright, if_neg hc])
theorem zaddEx {x y : Int32} (h1 : -2147483648 ≤ x.toInt + y.toInt) (h2 : x.toInt + y.toInt ≤ 2147483647) : 0 ≤ (x ^^^ (x + y)) &&& (y ^^^ (x + y)) := by
  have e : (x + y).toInt = x.toInt + y.toInt := Jvm.Kit.i32_add (by omega) (by omega)
  rw [Int32.le_iff_toInt_le]
  have hx : x.toInt = x.toBitVec.toInt := rfl
  have hy : y.toInt = y.toBitVec.toInt := rfl
  have key : ∀ a b : BitVec 32, (a + b).toInt = a.toInt + b.toInt → ((a ^^^ (a + b)) &&& (b ^^^ (a + b))).msb = false := by
    intro a b hab
    have ha := BitVec.msb_eq_toInt (x := a)
    have hb := BitVec.msb_eq_toInt (x := b)
    have hs := BitVec.msb_eq_toInt (x := a + b)
    rw [hab] at hs
    rw [BitVec.msb_and, BitVec.msb_xor, BitVec.msb_xor, ha, hb, hs]
    by_cases p : a.toInt < 0 <;> by_cases q : b.toInt < 0 <;> by_cases r : a.toInt + b.toInt < 0 <;> simp [p, q, r] <;> omega
  have hk := key x.toBitVec y.toBitVec e
  have h0 := BitVec.msb_eq_toInt (x := (x.toBitVec ^^^ (x.toBitVec + y.toBitVec)) &&& (y.toBitVec ^^^ (x.toBitVec + y.toBitVec)))
  rw [hk] at h0
  have h1 : ¬ ((x.toBitVec ^^^ (x.toBitVec + y.toBitVec)) &&& (y.toBitVec ^^^ (x.toBitVec + y.toBitVec))).toInt < 0 := by simpa using h0.symm
  have h2 : ((x ^^^ (x + y)) &&& (y ^^^ (x + y))).toInt = ((x.toBitVec ^^^ (x.toBitVec + y.toBitVec)) &&& (y.toBitVec ^^^ (x.toBitVec + y.toBitVec))).toInt := rfl
  rw [h2]
  show (0 : Int32).toInt ≤ _
  have : (0 : Int32).toInt = 0 := by decide
  omega
theorem C_addExact {x y : Int32} (h1 : -2147483648 ≤ x.toInt + y.toInt) (h2 : x.toInt + y.toInt ≤ 2147483647) : Meets G 1 MJ13_addExact [.int x, .int y] μ (zPure (.int (x + y)) μ) 0 0 := by
  refine meets_of (by decide +kernel) (Nat.le_of_ble_eq_true rfl) ?_
  refine aw_iload_n (i := 0) (q := 1) dJ13_addExact_0 rfl rfl rfl ?_
  refine aw_iload_n (i := 1) (q := 2) dJ13_addExact_1 rfl rfl rfl ?_
  refine aw_iadd (q := 3) dJ13_addExact_2 rfl ?_
  refine aw_istore_n (i := 2) (q := 4) dJ13_addExact_3 rfl (by decide) rfl ?_
  refine aw_iload_n (i := 0) (q := 5) dJ13_addExact_4 rfl rfl rfl ?_
  refine aw_iload_n (i := 2) (q := 6) dJ13_addExact_5 rfl rfl rfl ?_
  refine aw_ixor (q := 7) dJ13_addExact_6 rfl ?_
  refine aw_iload_n (i := 1) (q := 8) dJ13_addExact_7 rfl rfl rfl ?_
  refine aw_iload_n (i := 2) (q := 9) dJ13_addExact_8 rfl rfl rfl ?_
  refine aw_ixor (q := 10) dJ13_addExact_9 rfl ?_
  refine aw_iand (q := 11) dJ13_addExact_10 rfl ?_
  refine aw_if_ge (tgt := 24) (q := 14) dJ13_addExact_11 (by decide) rfl (fun _ => ?_) (fun hc => absurd ((zaddEx h1 h2 : (0 : Int32) ≤ _)) hc)
  refine aw_iload_n (i := 2) (q := 25) dJ13_addExact_24 rfl rfl rfl ?_
  exact aw_ireturn dJ13_addExact_25 rfl rfl (⟨rfl, rfl⟩)
/-- Math.min(a, b) as the row has it -/
def zMn (x y : Int32) : Int32 := if y < x then y else x
theorem C_Lamp_wear {a : Nat} {t : zT} {l u p h : Int32} (ha : μ a = some (t, oLamp l u p)) (ht : t ≠ zC) (h1 : -2147483648 ≤ u.toInt + (zMn h (l - u)).toInt) (h2 : u.toInt + (zMn h (l - u)).toInt ≤ 2147483647) : Meets G 2 MX4_wear [.ref a, .int h] μ (fun v μ' => v = some (.int (zMn h (l - u))) ∧ μ' = updM μ a (t, oLamp l (u + zMn h (l - u)) (if u + zMn h (l - u) = l then 2 else p))) 0 0 := by
  refine meets_of (by decide +kernel) (Nat.le_of_ble_eq_true rfl) ?_
  refine aw_iload_n (i := 1) (q := 1) dX4_wear_0 rfl rfl rfl ?_
  first | refine aw_aload_n (i := 0) (q := 2) dX4_wear_1 rfl rfl rfl ?_ | refine aw_aloadN_n (i := 0) (q := 2) dX4_wear_1 rfl rfl rfl ?_ | refine aw_aloadQ_n (i := 0) (q := 2) dX4_wear_1 rfl rfl rfl ?_
  refine aw_getfield (q := 5) dX4_wear_2 gf_X4_15_4 (by assumption) rfl rfl ?_
  first | refine aw_aload_n (i := 0) (q := 6) dX4_wear_5 rfl rfl rfl ?_ | refine aw_aloadN_n (i := 0) (q := 6) dX4_wear_5 rfl rfl rfl ?_ | refine aw_aloadQ_n (i := 0) (q := 6) dX4_wear_5 rfl rfl rfl ?_
  refine aw_getfield (q := 9) dX4_wear_6 gf_X4_21_4 (by assumption) rfl rfl ?_
  refine aw_isub (q := 10) dX4_wear_9 rfl ?_
  refine aw_min (q := 13) dX4_wear_10 mi_X4_24 (by decide) (by first | exact Nat.le_of_ble_eq_true rfl | simp [zcat_rf, Value.category]) rfl ?_
  refine aw_istore_n (i := 2) (q := 14) dX4_wear_13 rfl (by decide) rfl ?_
  first | refine aw_aload_n (i := 0) (q := 15) dX4_wear_14 rfl rfl rfl ?_ | refine aw_aloadN_n (i := 0) (q := 15) dX4_wear_14 rfl rfl rfl ?_ | refine aw_aloadQ_n (i := 0) (q := 15) dX4_wear_14 rfl rfl rfl ?_
  first | refine aw_aload_n (i := 0) (q := 16) dX4_wear_15 rfl rfl rfl ?_ | refine aw_aloadN_n (i := 0) (q := 16) dX4_wear_15 rfl rfl rfl ?_ | refine aw_aloadQ_n (i := 0) (q := 16) dX4_wear_15 rfl rfl rfl ?_
  refine aw_getfield (q := 19) dX4_wear_16 gf_X4_21_4 (by assumption) rfl rfl ?_
  refine aw_iload_n (i := 2) (q := 20) dX4_wear_19 rfl rfl rfl ?_
  refine aw_callS (q := 23) dX4_wear_20 (C_addExact h1 h2) cs_X4_30 rfl rfl (by decide) (by decide) (by first | exact Nat.le_of_ble_eq_true rfl | simp [zcat_rf, Value.category]) rfl (zpk ?_)
  refine aw_putfield (q := 26) dX4_wear_23 gf_X4_21_4 ha (by first | assumption | simp) (by first | rfl | exact znar_rf _ _) (by first | rfl | exact zfit_rf _ _) (Nat.le_of_ble_eq_true rfl) rfl (fun μ1 hg_μ1 => ?_)
  have ha : μ1 _ = some _ := hg_μ1 ▸ updM_eq _ _ _
  simp only [List.set] at ha hg_μ1
  first | refine aw_aload_n (i := 0) (q := 27) dX4_wear_26 rfl rfl rfl ?_ | refine aw_aloadN_n (i := 0) (q := 27) dX4_wear_26 rfl rfl rfl ?_ | refine aw_aloadQ_n (i := 0) (q := 27) dX4_wear_26 rfl rfl rfl ?_
  first | refine aw_aload_n (i := 0) (q := 28) dX4_wear_27 rfl rfl rfl ?_ | refine aw_aloadN_n (i := 0) (q := 28) dX4_wear_27 rfl rfl rfl ?_ | refine aw_aloadQ_n (i := 0) (q := 28) dX4_wear_27 rfl rfl rfl ?_
  refine aw_getfield (q := 31) dX4_wear_28 gf_X4_21_4 (by assumption) rfl rfl ?_
  first | refine aw_aload_n (i := 0) (q := 32) dX4_wear_31 rfl rfl rfl ?_ | refine aw_aloadN_n (i := 0) (q := 32) dX4_wear_31 rfl rfl rfl ?_ | refine aw_aloadQ_n (i := 0) (q := 32) dX4_wear_31 rfl rfl rfl ?_
  refine aw_getfield (q := 35) dX4_wear_32 gf_X4_15_4 (by assumption) rfl rfl ?_
  refine aw_icmp_ne (tgt := 42) (q := 38) dX4_wear_35 (by decide) rfl (fun hc => ?_) (fun hc => ?_)
  · first | refine aw_aload_n (i := 0) (q := 43) dX4_wear_42 rfl rfl rfl ?_ | refine aw_aloadN_n (i := 0) (q := 43) dX4_wear_42 rfl rfl rfl ?_ | refine aw_aloadQ_n (i := 0) (q := 43) dX4_wear_42 rfl rfl rfl ?_
    refine aw_getfield (q := 46) dX4_wear_43 gf_X4_9_4 (by assumption) rfl rfl ?_
    refine aw_putfield (q := 49) dX4_wear_46 gf_X4_9_4 ha (by first | assumption | simp) (by first | rfl | exact znar_rf _ _) (by first | rfl | exact zfit_rf _ _) (Nat.le_of_ble_eq_true rfl) rfl (fun μ2 hg_μ2 => ?_)
    have ha : μ2 _ = some _ := hg_μ2 ▸ updM_eq _ _ _
    simp only [List.set] at ha hg_μ2
    refine aw_iload_n (i := 2) (q := 50) dX4_wear_49 rfl rfl rfl ?_
    exact aw_ireturn dX4_wear_50 rfl rfl (by refine ⟨rfl, ?_⟩; subst hg_μ2 hg_μ1; simp only [updM_twice, if_neg hc])
  · refine aw_iconst (v := 2) (q := 39) dX4_wear_38 rfl rfl ?_
    refine aw_goto (tgt := 46) dX4_wear_39 (by decide) ?_
    refine aw_putfield (q := 49) dX4_wear_46 gf_X4_9_4 ha (by first | assumption | simp) (by first | rfl | exact znar_rf _ _) (by first | rfl | exact zfit_rf _ _) (Nat.le_of_ble_eq_true rfl) rfl (fun μ2 hg_μ2 => ?_)
    have ha : μ2 _ = some _ := hg_μ2 ▸ updM_eq _ _ _
    simp only [List.set] at ha hg_μ2
    refine aw_iload_n (i := 2) (q := 50) dX4_wear_49 rfl rfl rfl ?_
    exact aw_ireturn dX4_wear_50 rfl rfl (by refine ⟨rfl, ?_⟩; subst hg_μ2 hg_μ1; simp only [updM_twice, if_pos hc])
end ZLEAF
