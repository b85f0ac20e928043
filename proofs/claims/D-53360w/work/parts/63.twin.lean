/-! THE TWIN, part 22: texts: sign, need, digit, number -/
set_option maxRecDepth 100000
def bI (b : Bool) : Int32 := if b then 1 else 0
def tSg (R : tR) (j : Nat) : Int32 := if j < R.2.2.1.1 then R.2.2.1.2 j else 0
def tNW (g : Nat → Int32) (w : Bool) (a : Nat) (s : Int32) : Bool := w || decide (g a ≠ s)
def tAt (w : Bool) (a : Nat) : Nat := if w then a else a + 1
def tDW (g : Nat → Int32) (w : Bool) (a : Nat) (lo hi : Int32) : Bool := w || decide (¬ (lo ≤ g a - 48 ∧ g a - 48 ≤ hi))
def tDV (g : Nat → Int32) (w : Bool) (a : Nat) (lo hi : Int32) : Int32 := if tDW g w a lo hi then 0 else g a - 48
/-- more digits of a number: place and value -/
def tNumN (g : Nat → Int32) : Nat → Nat → Int32 → Nat × Int32
  | 0, a, v => (a, v)
  | f + 1, a, v => if 0 < v ∧ (48 ≤ g a ∧ g a ≤ 57) ∧ 10 * v + g a - 48 ≤ 999 then tNumN g f (a + 1) (10 * v + g a - 48) else (a, v)
/-- a number: whether wrong, place, value -/
def tNbr (g : Nat → Int32) (w : Bool) (a : Nat) : Bool × Nat × Int32 := if tDW g w a 0 9 then (true, a, 0) else (false, tNumN g 3 (a + 1) (g a - 48))
theorem zTS.sc {G : zG} {μ μ1 : zM} {m : Nat} {lam : Nat → Nat} {K : Nat → Nat → Int32} {P : zP} {R : tR} (hS : zTS G μ m lam K P R) (j : Nat) (v : Int32) (hj : 3 ≤ j) (hμ : μ1 = updM μ m ((2, 0), oTw lam (setK K 0 (upd (K 0) j v)))) : zTS G μ1 m lam (setK K 0 (upd (K 0) j v)) P R ∧ zKp tTw μ μ1 := by
  obtain ⟨h1, h2⟩ := hS.1.1.sc' j v hμ
  exact ⟨⟨hS.1.other h1 (setK_ne (by decide)), hS.2.congr (fun i hi => pk_un (by omega)) rfl rfl rfl rfl⟩, h2⟩
/-- what a reading method leaves -/
def tX (G : zG) (μ : zM) (m : Nat) (lam : Nat → Nat) (K : Nat → Nat → Int32) (P : zP) (R : tR) (w : Bool) (a : Nat) (r : Option Value) : Option Value → zM → Prop := fun v μ' => v = r ∧ (∃ K', zTS G μ' m lam K' P R ∧ K' 0 5 = nI a ∧ K' 0 6 = bI w ∧ K' 0 4 = K 0 4 ∧ ∀ r, r ≠ 0 → K' r = K r) ∧ zKp tTw μ μ'
section ZTW22
variable {G : zG} {μ : zM} {m : Nat} {lam : Nat → Nat} {K : Nat → Nat → Int32} {P : zP} {R : tR}
theorem C2_sign {a : Nat} (hS : zTS G μ m lam K P R) (ha : K 0 5 = nI a) (hb : a < 1000) : Meets G 1 MX2_sign [.ref m] μ (zPure (.int (tSg R a)) μ) 0 0 := by
  have hm := hS.1.m
  have h6 := hS.1.a6
  have hn := hS.2.2.2.2.2.2.1
  have h80 := hS.2.2.2.2.2.2.2.1
  have hx := hS.2.2.2.2.2.1
  refine meets_of (by decide +kernel) (Nat.le_of_ble_eq_true rfl) ?_
  first | refine aw_aload_n (i := 0) (q := 1) dX2_sign_0 rfl rfl rfl ?_ | refine aw_aloadN_n (i := 0) (q := 1) dX2_sign_0 rfl rfl rfl ?_ | refine aw_aloadQ_n (i := 0) (q := 1) dX2_sign_0 rfl rfl rfl ?_
  refine aw_getfield (q := 4) dX2_sign_1 gf_X2_185_2 (by assumption) rfl rfl ?_
  first | refine aw_aload_n (i := 0) (q := 5) dX2_sign_4 rfl rfl rfl ?_ | refine aw_aloadN_n (i := 0) (q := 5) dX2_sign_4 rfl rfl rfl ?_ | refine aw_aloadQ_n (i := 0) (q := 5) dX2_sign_4 rfl rfl rfl ?_
  refine aw_getfield (q := 8) dX2_sign_5 gf_X2_167_2 (by assumption) rfl rfl ?_
  rw [ha, hn]
  refine aw_icmp_ge (tgt := 23) (q := 11) dX2_sign_8 (by decide) rfl (fun hc => ?_) (fun hc => ?_)
  · refine aw_iconst (v := 0) (q := 24) dX2_sign_23 rfl rfl ?_
    exact aw_ireturn dX2_sign_24 rfl (by first | rfl | exact zB_nar _) (by refine ⟨?_, rfl⟩; rw [tSg, if_neg (fun h => nI_ge h (by omega) hc)])
  · first | refine aw_aload_n (i := 0) (q := 12) dX2_sign_11 rfl rfl rfl ?_ | refine aw_aloadN_n (i := 0) (q := 12) dX2_sign_11 rfl rfl rfl ?_ | refine aw_aloadQ_n (i := 0) (q := 12) dX2_sign_11 rfl rfl rfl ?_
    refine aw_getfield (q := 15) dX2_sign_12 gf_X2_26_2 (by assumption) rfl rfl ?_
    first | refine aw_aload_n (i := 0) (q := 16) dX2_sign_15 rfl rfl rfl ?_ | refine aw_aloadN_n (i := 0) (q := 16) dX2_sign_15 rfl rfl rfl ?_ | refine aw_aloadQ_n (i := 0) (q := 16) dX2_sign_15 rfl rfl rfl ?_
    refine aw_getfield (q := 19) dX2_sign_16 gf_X2_185_2 (by assumption) rfl rfl ?_
    have hlt : a < R.2.2.1.1 := (nI_ltI (by omega) (by omega)).mp (Int32.not_le.mp hc)
    rw [ha]
    refine aw_iald (q := 20) (v := R.2.2.1.2 a) (a) dX2_sign_19 (by assumption) (by first | assumption | (simp only [← nI_add, ← pk_mul]; rfl) | rfl) (by omega) (by omega) (hx a hlt) rfl ?_
    refine aw_goto (tgt := 24) dX2_sign_20 (by decide) ?_
    exact aw_ireturn dX2_sign_24 rfl (by first | rfl | exact zB_nar _) (by refine ⟨?_, rfl⟩; rw [tSg, if_pos hlt])
theorem C2_need {a : Nat} {w : Bool} {s : Int32} (hS : zTS G μ m lam K P R) (ha : K 0 5 = nI a) (hb : a < 1000) (hw : K 0 6 = bI w) : Meets G 2 MX2_need [.ref m, .int s] μ (tX G μ m lam K P R (tNW (tSg R) w a s) (tAt (tNW (tSg R) w a s) a) none) 0 0 := by
  have hm := hS.1.m
  refine meets_of (by decide +kernel) (Nat.le_of_ble_eq_true rfl) ?_
  have rest : ∀ w' : Bool, w' = tNW (tSg R) w a s → AW G 2 MX2_need (tX G μ m lam K P R (tNW (tSg R) w a s) (tAt (tNW (tSg R) w a s) a) none) 0 0 21 (lv_args 0 [.ref m, .int s]) [.int (bI w'), .ref m] μ := by
    intro w' hw'
    rw [← hw']
    cases w' with
    | true =>
      refine aw_putfield (q := 24) dX2_need_21 gf_X2_188_2 hm (by first | assumption | simp) (by first | rfl | exact znar_rf _ _) (by first | rfl | exact zfit_rf _ _) (Nat.le_of_ble_eq_true rfl) rfl (fun μ1 hg_μ1 => ?_)
      have hm : μ1 _ = some _ := hg_μ1 ▸ updM_eq _ _ _
      simp only [List.set] at hm hg_μ1
      obtain ⟨hS1, hk1⟩ := hS.sc 6 1 (by decide) hg_μ1
      first | refine aw_aload_n (i := 0) (q := 25) dX2_need_24 rfl rfl rfl ?_ | refine aw_aloadN_n (i := 0) (q := 25) dX2_need_24 rfl rfl rfl ?_ | refine aw_aloadQ_n (i := 0) (q := 25) dX2_need_24 rfl rfl rfl ?_
      refine aw_dup (q := 26) dX2_need_25 (by first | rfl | exact zcat_rf _) rfl ?_
      refine aw_getfield (q := 29) dX2_need_26 gf_X2_185_2 (by assumption) rfl rfl ?_
      first | refine aw_aload_n (i := 0) (q := 30) dX2_need_29 rfl rfl rfl ?_ | refine aw_aloadN_n (i := 0) (q := 30) dX2_need_29 rfl rfl rfl ?_ | refine aw_aloadQ_n (i := 0) (q := 30) dX2_need_29 rfl rfl rfl ?_
      refine aw_getfield (q := 33) dX2_need_30 gf_X2_188_2 (by assumption) rfl rfl ?_
      refine aw_if_eq (tgt := 40) (q := 36) dX2_need_33 (by decide) rfl (fun hc => absurd hc ((by decide))) (fun _ => ?_)
      refine aw_iconst (v := 0) (q := 37) dX2_need_36 rfl rfl ?_
      refine aw_goto (tgt := 41) dX2_need_37 (by decide) ?_
      refine aw_iadd (q := 42) dX2_need_41 rfl ?_
      refine aw_putfield (q := 45) dX2_need_42 gf_X2_185_2 hm (by first | assumption | simp) (by first | rfl | exact znar_rf _ _) (by first | rfl | exact zfit_rf _ _) (Nat.le_of_ble_eq_true rfl) rfl (fun μ2 hg_μ2 => ?_)
      have hm : μ2 _ = some _ := hg_μ2 ▸ updM_eq _ _ _
      simp only [List.set] at hm hg_μ2
      obtain ⟨hS2, hk2⟩ := hS1.sc 5 (K 0 5 + 0) (by decide) hg_μ2
      exact aw_return dX2_need_45 rfl (⟨rfl, ⟨_, hS2, by (show K 0 5 + 0 = nI a; rw [ha]; exact nI_add a 0), rfl, rfl, fun r hr => (setK_ne hr).trans (setK_ne hr)⟩, hk1.tr hk2⟩)
    | false =>
      refine aw_putfield (q := 24) dX2_need_21 gf_X2_188_2 hm (by first | assumption | simp) (by first | rfl | exact znar_rf _ _) (by first | rfl | exact zfit_rf _ _) (Nat.le_of_ble_eq_true rfl) rfl (fun μ1 hg_μ1 => ?_)
      have hm : μ1 _ = some _ := hg_μ1 ▸ updM_eq _ _ _
      simp only [List.set] at hm hg_μ1
      obtain ⟨hS1, hk1⟩ := hS.sc 6 0 (by decide) hg_μ1
      first | refine aw_aload_n (i := 0) (q := 25) dX2_need_24 rfl rfl rfl ?_ | refine aw_aloadN_n (i := 0) (q := 25) dX2_need_24 rfl rfl rfl ?_ | refine aw_aloadQ_n (i := 0) (q := 25) dX2_need_24 rfl rfl rfl ?_
      refine aw_dup (q := 26) dX2_need_25 (by first | rfl | exact zcat_rf _) rfl ?_
      refine aw_getfield (q := 29) dX2_need_26 gf_X2_185_2 (by assumption) rfl rfl ?_
      first | refine aw_aload_n (i := 0) (q := 30) dX2_need_29 rfl rfl rfl ?_ | refine aw_aloadN_n (i := 0) (q := 30) dX2_need_29 rfl rfl rfl ?_ | refine aw_aloadQ_n (i := 0) (q := 30) dX2_need_29 rfl rfl rfl ?_
      refine aw_getfield (q := 33) dX2_need_30 gf_X2_188_2 (by assumption) rfl rfl ?_
      refine aw_if_eq (tgt := 40) (q := 36) dX2_need_33 (by decide) rfl (fun _ => ?_) (fun hc => absurd (rfl) hc)
      refine aw_iconst (v := 1) (q := 41) dX2_need_40 rfl rfl ?_
      refine aw_iadd (q := 42) dX2_need_41 rfl ?_
      refine aw_putfield (q := 45) dX2_need_42 gf_X2_185_2 hm (by first | assumption | simp) (by first | rfl | exact znar_rf _ _) (by first | rfl | exact zfit_rf _ _) (Nat.le_of_ble_eq_true rfl) rfl (fun μ2 hg_μ2 => ?_)
      have hm : μ2 _ = some _ := hg_μ2 ▸ updM_eq _ _ _
      simp only [List.set] at hm hg_μ2
      obtain ⟨hS2, hk2⟩ := hS1.sc 5 (K 0 5 + 1) (by decide) hg_μ2
      exact aw_return dX2_need_45 rfl (⟨rfl, ⟨_, hS2, by (show K 0 5 + 1 = nI (a + 1); rw [ha]; exact nI_1 a), rfl, rfl, fun r hr => (setK_ne hr).trans (setK_ne hr)⟩, hk1.tr hk2⟩)
  first | refine aw_aload_n (i := 0) (q := 1) dX2_need_0 rfl rfl rfl ?_ | refine aw_aloadN_n (i := 0) (q := 1) dX2_need_0 rfl rfl rfl ?_ | refine aw_aloadQ_n (i := 0) (q := 1) dX2_need_0 rfl rfl rfl ?_
  first | refine aw_aload_n (i := 0) (q := 2) dX2_need_1 rfl rfl rfl ?_ | refine aw_aloadN_n (i := 0) (q := 2) dX2_need_1 rfl rfl rfl ?_ | refine aw_aloadQ_n (i := 0) (q := 2) dX2_need_1 rfl rfl rfl ?_
  refine aw_getfield (q := 5) dX2_need_2 gf_X2_188_2 (by assumption) rfl rfl ?_
  rw [hw]
  cases w with
  | true =>
    refine aw_if_ne (tgt := 16) (q := 8) dX2_need_5 (by decide) rfl (fun _ => ?_) (fun hc => absurd hc ((by decide)))
    refine aw_iconst (v := 1) (q := 17) dX2_need_16 rfl rfl ?_
    refine aw_goto (tgt := 21) dX2_need_17 (by decide) ?_
    exact rest true rfl
  | false =>
    refine aw_if_ne (tgt := 16) (q := 8) dX2_need_5 (by decide) rfl (fun hc => absurd (rfl) hc) (fun _ => ?_)
    first | refine aw_aload_n (i := 0) (q := 9) dX2_need_8 rfl rfl rfl ?_ | refine aw_aloadN_n (i := 0) (q := 9) dX2_need_8 rfl rfl rfl ?_ | refine aw_aloadQ_n (i := 0) (q := 9) dX2_need_8 rfl rfl rfl ?_
    refine aw_callV (q := 12) dX2_need_9 (C2_sign hS ha hb) cv_X2_191_2 (by assumption) rfl rfl (by decide) (by decide) (by first | exact Nat.le_of_ble_eq_true rfl | simp [zcat_rf, Value.category]) rfl (zpk ?_)
    refine aw_iload_n (i := 1) (q := 13) dX2_need_12 rfl rfl rfl ?_
    refine aw_icmp_eq (tgt := 20) (q := 16) dX2_need_13 (by decide) rfl (fun hc => ?_) (fun hc => ?_)
    · refine aw_iconst (v := 0) (q := 21) dX2_need_20 rfl rfl ?_
      exact rest false (by rw [tNW, decide_eq_false (fun h => h hc)]; rfl)
    · refine aw_iconst (v := 1) (q := 17) dX2_need_16 rfl rfl ?_
      refine aw_goto (tgt := 21) dX2_need_17 (by decide) ?_
      exact rest true (by rw [tNW, decide_eq_true hc]; rfl)
theorem C2_digit {a : Nat} {w : Bool} {lo hi : Int32} (hS : zTS G μ m lam K P R) (ha : K 0 5 = nI a) (hb : a < 1000) (hw : K 0 6 = bI w) : Meets G 2 MX2_digit [.ref m, .int lo, .int hi] μ (tX G μ m lam K P R (tDW (tSg R) w a lo hi) (tAt (tDW (tSg R) w a lo hi) a) (some (.int (tDV (tSg R) w a lo hi)))) 0 0 := by
  have hm := hS.1.m
  refine meets_of (by decide +kernel) (Nat.le_of_ble_eq_true rfl) ?_
  first | refine aw_aload_n (i := 0) (q := 1) dX2_digit_0 rfl rfl rfl ?_ | refine aw_aloadN_n (i := 0) (q := 1) dX2_digit_0 rfl rfl rfl ?_ | refine aw_aloadQ_n (i := 0) (q := 1) dX2_digit_0 rfl rfl rfl ?_
  refine aw_callV (q := 4) dX2_digit_1 (C2_sign hS ha hb) cv_X2_191_2 (by assumption) rfl rfl (by decide) (by decide) (by first | exact Nat.le_of_ble_eq_true rfl | simp [zcat_rf, Value.category]) rfl (zpk ?_)
  refine aw_bipush (v := 48) (q := 6) dX2_digit_4 rfl rfl ?_
  refine aw_isub (q := 7) dX2_digit_6 rfl ?_
  refine aw_istore_n (i := 3) (q := 8) dX2_digit_7 rfl (by decide) rfl ?_
  first | refine aw_aload_n (i := 0) (q := 9) dX2_digit_8 rfl rfl rfl ?_ | refine aw_aloadN_n (i := 0) (q := 9) dX2_digit_8 rfl rfl rfl ?_ | refine aw_aloadQ_n (i := 0) (q := 9) dX2_digit_8 rfl rfl rfl ?_
  first | refine aw_aload_n (i := 0) (q := 10) dX2_digit_9 rfl rfl rfl ?_ | refine aw_aloadN_n (i := 0) (q := 10) dX2_digit_9 rfl rfl rfl ?_ | refine aw_aloadQ_n (i := 0) (q := 10) dX2_digit_9 rfl rfl rfl ?_
  refine aw_getfield (q := 13) dX2_digit_10 gf_X2_188_2 (by assumption) rfl rfl ?_
  have rest : ∀ w' : Bool, w' = tDW (tSg R) w a lo hi → AW G 2 MX2_digit (tX G μ m lam K P R (tDW (tSg R) w a lo hi) (tAt (tDW (tSg R) w a lo hi) a) (some (.int (tDV (tSg R) w a lo hi)))) 0 0 30 [(0, .ref m), (3, .int (tSg R a - 48))] [.int (bI w'), .ref m] μ := by
    intro w' hw'
    unfold tDV
    rw [← hw']
    cases w' with
    | true =>
      refine aw_putfield (q := 33) dX2_digit_30 gf_X2_188_2 hm (by first | assumption | simp) (by first | rfl | exact znar_rf _ _) (by first | rfl | exact zfit_rf _ _) (Nat.le_of_ble_eq_true rfl) rfl (fun μ1 hg_μ1 => ?_)
      have hm : μ1 _ = some _ := hg_μ1 ▸ updM_eq _ _ _
      simp only [List.set] at hm hg_μ1
      obtain ⟨hS1, hk1⟩ := hS.sc 6 1 (by decide) hg_μ1
      first | refine aw_aload_n (i := 0) (q := 34) dX2_digit_33 rfl rfl rfl ?_ | refine aw_aloadN_n (i := 0) (q := 34) dX2_digit_33 rfl rfl rfl ?_ | refine aw_aloadQ_n (i := 0) (q := 34) dX2_digit_33 rfl rfl rfl ?_
      refine aw_dup (q := 35) dX2_digit_34 (by first | rfl | exact zcat_rf _) rfl ?_
      refine aw_getfield (q := 38) dX2_digit_35 gf_X2_185_2 (by assumption) rfl rfl ?_
      first | refine aw_aload_n (i := 0) (q := 39) dX2_digit_38 rfl rfl rfl ?_ | refine aw_aloadN_n (i := 0) (q := 39) dX2_digit_38 rfl rfl rfl ?_ | refine aw_aloadQ_n (i := 0) (q := 39) dX2_digit_38 rfl rfl rfl ?_
      refine aw_getfield (q := 42) dX2_digit_39 gf_X2_188_2 (by assumption) rfl rfl ?_
      refine aw_if_eq (tgt := 49) (q := 45) dX2_digit_42 (by decide) rfl (fun hc => absurd hc ((by decide))) (fun _ => ?_)
      refine aw_iconst (v := 0) (q := 46) dX2_digit_45 rfl rfl ?_
      refine aw_goto (tgt := 50) dX2_digit_46 (by decide) ?_
      refine aw_iadd (q := 51) dX2_digit_50 rfl ?_
      refine aw_putfield (q := 54) dX2_digit_51 gf_X2_185_2 hm (by first | assumption | simp) (by first | rfl | exact znar_rf _ _) (by first | rfl | exact zfit_rf _ _) (Nat.le_of_ble_eq_true rfl) rfl (fun μ2 hg_μ2 => ?_)
      have hm : μ2 _ = some _ := hg_μ2 ▸ updM_eq _ _ _
      simp only [List.set] at hm hg_μ2
      obtain ⟨hS2, hk2⟩ := hS1.sc 5 (K 0 5 + 0) (by decide) hg_μ2
      first | refine aw_aload_n (i := 0) (q := 55) dX2_digit_54 rfl rfl rfl ?_ | refine aw_aloadN_n (i := 0) (q := 55) dX2_digit_54 rfl rfl rfl ?_ | refine aw_aloadQ_n (i := 0) (q := 55) dX2_digit_54 rfl rfl rfl ?_
      refine aw_getfield (q := 58) dX2_digit_55 gf_X2_188_2 (by assumption) rfl rfl ?_
      refine aw_if_eq (tgt := 65) (q := 61) dX2_digit_58 (by decide) rfl (fun hc => absurd hc ((by decide))) (fun _ => ?_)
      refine aw_iconst (v := 0) (q := 62) dX2_digit_61 rfl rfl ?_
      refine aw_goto (tgt := 66) dX2_digit_62 (by decide) ?_
      exact aw_ireturn dX2_digit_66 rfl (by first | rfl | exact zB_nar _) (⟨rfl, ⟨_, hS2, by (show K 0 5 + 0 = nI a; rw [ha]; exact nI_add a 0), rfl, rfl, fun r hr => (setK_ne hr).trans (setK_ne hr)⟩, hk1.tr hk2⟩)
    | false =>
      refine aw_putfield (q := 33) dX2_digit_30 gf_X2_188_2 hm (by first | assumption | simp) (by first | rfl | exact znar_rf _ _) (by first | rfl | exact zfit_rf _ _) (Nat.le_of_ble_eq_true rfl) rfl (fun μ1 hg_μ1 => ?_)
      have hm : μ1 _ = some _ := hg_μ1 ▸ updM_eq _ _ _
      simp only [List.set] at hm hg_μ1
      obtain ⟨hS1, hk1⟩ := hS.sc 6 0 (by decide) hg_μ1
      first | refine aw_aload_n (i := 0) (q := 34) dX2_digit_33 rfl rfl rfl ?_ | refine aw_aloadN_n (i := 0) (q := 34) dX2_digit_33 rfl rfl rfl ?_ | refine aw_aloadQ_n (i := 0) (q := 34) dX2_digit_33 rfl rfl rfl ?_
      refine aw_dup (q := 35) dX2_digit_34 (by first | rfl | exact zcat_rf _) rfl ?_
      refine aw_getfield (q := 38) dX2_digit_35 gf_X2_185_2 (by assumption) rfl rfl ?_
      first | refine aw_aload_n (i := 0) (q := 39) dX2_digit_38 rfl rfl rfl ?_ | refine aw_aloadN_n (i := 0) (q := 39) dX2_digit_38 rfl rfl rfl ?_ | refine aw_aloadQ_n (i := 0) (q := 39) dX2_digit_38 rfl rfl rfl ?_
      refine aw_getfield (q := 42) dX2_digit_39 gf_X2_188_2 (by assumption) rfl rfl ?_
      refine aw_if_eq (tgt := 49) (q := 45) dX2_digit_42 (by decide) rfl (fun _ => ?_) (fun hc => absurd (rfl) hc)
      refine aw_iconst (v := 1) (q := 50) dX2_digit_49 rfl rfl ?_
      refine aw_iadd (q := 51) dX2_digit_50 rfl ?_
      refine aw_putfield (q := 54) dX2_digit_51 gf_X2_185_2 hm (by first | assumption | simp) (by first | rfl | exact znar_rf _ _) (by first | rfl | exact zfit_rf _ _) (Nat.le_of_ble_eq_true rfl) rfl (fun μ2 hg_μ2 => ?_)
      have hm : μ2 _ = some _ := hg_μ2 ▸ updM_eq _ _ _
      simp only [List.set] at hm hg_μ2
      obtain ⟨hS2, hk2⟩ := hS1.sc 5 (K 0 5 + 1) (by decide) hg_μ2
      first | refine aw_aload_n (i := 0) (q := 55) dX2_digit_54 rfl rfl rfl ?_ | refine aw_aloadN_n (i := 0) (q := 55) dX2_digit_54 rfl rfl rfl ?_ | refine aw_aloadQ_n (i := 0) (q := 55) dX2_digit_54 rfl rfl rfl ?_
      refine aw_getfield (q := 58) dX2_digit_55 gf_X2_188_2 (by assumption) rfl rfl ?_
      refine aw_if_eq (tgt := 65) (q := 61) dX2_digit_58 (by decide) rfl (fun _ => ?_) (fun hc => absurd (rfl) hc)
      refine aw_iload_n (i := 3) (q := 66) dX2_digit_65 rfl rfl rfl ?_
      exact aw_ireturn dX2_digit_66 rfl (by first | rfl | exact zB_nar _) (⟨rfl, ⟨_, hS2, by (show K 0 5 + 1 = nI (a + 1); rw [ha]; exact nI_1 a), rfl, rfl, fun r hr => (setK_ne hr).trans (setK_ne hr)⟩, hk1.tr hk2⟩)
  rw [hw]
  cases w with
  | true =>
    refine aw_if_ne (tgt := 25) (q := 16) dX2_digit_13 (by decide) rfl (fun _ => ?_) (fun hc => absurd hc ((by decide)))
    refine aw_iconst (v := 1) (q := 26) dX2_digit_25 rfl rfl ?_
    refine aw_goto (tgt := 30) dX2_digit_26 (by decide) ?_
    exact aw_locals (by exact ⟨rfl, rfl, trivial⟩) (rest true rfl)
  | false =>
    refine aw_if_ne (tgt := 25) (q := 16) dX2_digit_13 (by decide) rfl (fun hc => absurd (rfl) hc) (fun _ => ?_)
    refine aw_iload_n (i := 3) (q := 17) dX2_digit_16 rfl rfl rfl ?_
    refine aw_iload_n (i := 1) (q := 18) dX2_digit_17 rfl rfl rfl ?_
    refine aw_iload_n (i := 2) (q := 19) dX2_digit_18 rfl rfl rfl ?_
    refine aw_callS (q := 22) dX2_digit_19 (C2_in) cs_X2_49 rfl rfl (by decide) (by decide) (by first | exact Nat.le_of_ble_eq_true rfl | simp [zcat_rf, Value.category]) rfl (zpk ?_)
    refine aw_if_ne (tgt := 29) (q := 25) dX2_digit_22 (by decide) rfl (fun hc => ?_) (fun hc => ?_)
    · refine aw_iconst (v := 0) (q := 30) dX2_digit_29 rfl rfl ?_
      exact aw_locals (by exact ⟨rfl, rfl, trivial⟩) (rest false (by rw [tDW, decide_eq_false (fun h => h (zB_1 hc))]; rfl))
    · refine aw_iconst (v := 1) (q := 26) dX2_digit_25 rfl rfl ?_
      refine aw_goto (tgt := 30) dX2_digit_26 (by decide) ?_
      exact aw_locals (by exact ⟨rfl, rfl, trivial⟩) (rest true (by rw [tDW, decide_eq_true (zB_0 hc)]; rfl))
end ZTW22
