/-! THE TWIN, part 20: undo, save, restore, wipe, rowFor, mostShows -/
set_option maxRecDepth 100000
def tUndo (P : zP) (R : tR) : tT := if R.1.1 = 0 then (P, R, -5) else (R.1.2 (R.1.1 - 1), ((R.1.1 - 1, R.1.2), R.2), nI (R.1.1 - 1))
def tSaveC (P : zP) (R : tR) (x : Int32) : tT := if 0 ≤ x ∧ x ≤ 1 then (P, (R.1, fun p => if p = x.toNatClampNeg then some P else R.2.1 p, R.2.2), P 0 0 6) else (P, R, -2)
def tRestC (P : zP) (R : tR) (x : Int32) : tT := if 0 ≤ x ∧ x ≤ 1 then (match R.2.1 x.toNatClampNeg with
  | none => (P, R, -5)
  | some Q => (Q, tRec P R, Q 0 0 6)) else (P, R, -2)
def tWipe (P : zP) (R : tR) : tT := (P, (R.1, R.2.1, (0, R.2.2.1.2), R.2.2.2), nI R.2.2.1.1)
def tRowForC (P : zP) (s n : Int32) : Int32 :=
  if 0 ≤ s ∧ s ≤ P 0 0 9 - 1 then
    if 1 ≤ n ∧ n ≤ 40 then (if P 3 s.toNatClampNeg 3 = 0 ∧ tTaken P s + n ≤ 96 then nI (tRow (tFreeIn P s) n) else -5) else -2
  else -1
/-- how many shows a lamp still bears: wear w, least light, life l, hours h -/
def tMostN (least life : Int32) (w : Nat) : Nat → Nat → Nat
  | 0, _ => 0
  | f + 1, h => if least ≤ zBright life (nI h) ∧ nI h + nI w ≤ life then tMostN least life w f (h + w) + 1 else 0
def tMostC (P : zP) (k l : Int32) : Int32 :=
  if (0 ≤ k ∧ k ≤ P 0 0 7 - 1) ∧ (0 ≤ l ∧ l ≤ P 0 0 8 - 1) then nI (tMostN (P 1 k.toNatClampNeg 1) (P 2 l.toNatClampNeg 0) (P 1 k.toNatClampNeg 0).toNatClampNeg 5001 (P 2 l.toNatClampNeg 1).toNatClampNeg) else -1
/-- kinds' wear, lamps' life and hours -/
def tKL (P : zP) : Prop := (∀ k, k < pcn P 7 → ∃ w, 1 ≤ w ∧ w ≤ 40 ∧ P 1 k 0 = nI w) ∧ ∀ l, l < pcn P 8 → ∃ L u, 50 ≤ L ∧ L ≤ 5000 ∧ u ≤ L ∧ P 2 l 0 = nI L ∧ P 2 l 1 = nI u
section ZTW20
variable {G : zG} {μ : zM} {m : Nat} {lam : Nat → Nat} {K : Nat → Nat → Int32} {P : zP} {R : tR}
/-- what a public method leaves that is never called by carry -/
def tPub0 (G : zG) (μ : zM) (m : Nat) (lam : Nat → Nat) (T : tT) : Option Value → zM → Prop := fun v μ' => v = some (.int T.2.2) ∧ (∃ K', zTS G μ' m lam K' T.1 T.2.1) ∧ zKp tTw μ μ'
theorem tPub0.same {T : tT} {r : Int32} (hS : zTS G μ m lam K P R) (e : T = (P, R, r)) : tPub0 G μ m lam T (some (.int r)) μ := by
  subst e
  exact ⟨rfl, ⟨K, hS⟩, zKp.rf⟩
theorem tPub0.of {μ' : zM} {K2 : Nat → Nat → Int32} {P' : zP} {R' : tR} {T : tT} {r : Int32} (hT : zTP G μ' m lam K2 P') (hr : tRest K2 R') (hk : zKp tTw μ μ') (e : T = (P', R', r)) : tPub0 G μ m lam T (some (.int r)) μ' := by
  subst e
  exact ⟨rfl, ⟨K2, hT, hr⟩, hk⟩
theorem C2_undo (hS : zTS G μ m lam K P R) (hok : ∀ u, u < R.1.1 → tOk (R.1.2 u)) : Meets G 1 MX2_undo [.ref m] μ (tPub0 G μ m lam (tUndo P R)) 0 0 := by
  obtain ⟨hT, hr⟩ := hS
  have hm := hT.m
  refine meets_of (by decide +kernel) (Nat.le_of_ble_eq_true rfl) ?_
  first | refine aw_aload_n (i := 0) (q := 1) dX2_undo_0 rfl rfl rfl ?_ | refine aw_aloadN_n (i := 0) (q := 1) dX2_undo_0 rfl rfl rfl ?_ | refine aw_aloadQ_n (i := 0) (q := 1) dX2_undo_0 rfl rfl rfl ?_
  refine aw_getfield (q := 4) dX2_undo_1 gf_X2_45_2 (by assumption) rfl rfl ?_
  rw [hr.1]
  by_cases h0 : R.1.1 = 0
  · rw [h0]
    refine aw_if_ne (tgt := 10) (q := 7) dX2_undo_4 (by decide) rfl (fun hc => absurd (rfl) hc) (fun _ => ?_)
    refine aw_bipush (v := (-5)) (q := 9) dX2_undo_7 rfl rfl ?_
    exact aw_ireturn dX2_undo_9 rfl (by first | rfl | exact zB_nar _) (tPub0.same ⟨hT, hr⟩ (if_pos h0))
  · have h6 := hr.2.1
    obtain ⟨k, hk⟩ : ∃ k, R.1.1 = k + 1 := ⟨R.1.1 - 1, by omega⟩
    have e0 : tUndo P R = (R.1.2 k, ((k, R.1.2), R.2), nI k) := by rw [tUndo, if_neg h0, show R.1.1 - 1 = k by omega]
    rw [hk]
    refine aw_if_ne (tgt := 10) (q := 7) dX2_undo_4 (by decide) rfl (fun _ => ?_) (fun hc => absurd hc (nI_ne0 (by omega) (by omega)))
    first | refine aw_aload_n (i := 0) (q := 11) dX2_undo_10 rfl rfl rfl ?_ | refine aw_aloadN_n (i := 0) (q := 11) dX2_undo_10 rfl rfl rfl ?_ | refine aw_aloadQ_n (i := 0) (q := 11) dX2_undo_10 rfl rfl rfl ?_
    refine aw_dup (q := 12) dX2_undo_11 (by first | rfl | exact zcat_rf _) rfl ?_
    refine aw_getfield (q := 15) dX2_undo_12 gf_X2_45_2 (by assumption) rfl rfl ?_
    refine aw_iconst (v := 1) (q := 16) dX2_undo_15 rfl rfl ?_
    refine aw_isub (q := 17) dX2_undo_16 rfl ?_
    rw [show K 0 0 = nI (k + 1) by rw [hr.1, hk]]
    rw [nI_pred]
    refine aw_putfield (q := 20) dX2_undo_17 gf_X2_45_2 hm (by first | assumption | simp) (by first | rfl | exact znar_rf _ _) (by first | rfl | exact zfit_rf _ _) (Nat.le_of_ble_eq_true rfl) rfl (fun μ1 hg_μ1 => ?_)
    have hm : μ1 _ = some _ := hg_μ1 ▸ updM_eq _ _ _
    simp only [List.set] at hm hg_μ1
    obtain ⟨hT1, hk1⟩ := hT.1.sc' 0 (nI k) hg_μ1
    have hT1 := hT.other hT1 (setK_ne (by decide))
    refine aw_iconst (v := 0) (q := 21) dX2_undo_20 rfl rfl ?_
    refine aw_istore_n (i := 1) (q := 22) dX2_undo_21 rfl (by decide) rfl ?_
    have loop : ∀ n e, e + n = 1980 → ∀ (μ2 : zM) (f : Nat → Int32), (∀ j, j < e → f j = K 3 (1980 * k + j)) → zTw G μ2 m lam (setK (setK K 0 (upd (K 0) 0 (nI k))) 1 f) → zKp tTw μ μ2 → AW G 1 MX2_undo (tPub0 G μ m lam (tUndo P R)) 0 0 22 [(0, .ref m), (1, .int (nI e))] [] μ2 := by
      intro n
      induction n with
      | zero =>
        intro e he μ2 f hf hT hk2
        have hm := hT.1
        refine aw_iload_n (i := 1) (q := 23) dX2_undo_22 rfl rfl rfl ?_
        refine aw_sipush (v := 1980) (q := 26) dX2_undo_23 rfl rfl ?_
        refine aw_icmp_ge (tgt := 56) (q := 29) dX2_undo_26 (by decide) rfl (fun _ => ?_) (fun hc => absurd (nI_le (a := 1980) (by omega) (by omega)) hc)
        first | refine aw_aload_n (i := 0) (q := 57) dX2_undo_56 rfl rfl rfl ?_ | refine aw_aloadN_n (i := 0) (q := 57) dX2_undo_56 rfl rfl rfl ?_ | refine aw_aloadQ_n (i := 0) (q := 57) dX2_undo_56 rfl rfl rfl ?_
        refine aw_getfield (q := 60) dX2_undo_57 gf_X2_45_2 (by assumption) rfl rfl ?_
        have hfin : zTP G μ2 m lam (setK (setK K 0 (upd (K 0) 0 (nI k))) 1 f) (R.1.2 k) := ⟨hT, by (rw [setK_eq]; exact (hr.2.2.1 k (by omega)).congr (fun j hj => hf j (by omega))), hok k (by omega)⟩
        have hr3 : tRest (setK (setK K 0 (upd (K 0) 0 (nI k))) 1 f) ((k, R.1.2), R.2) := ⟨rfl, (show k ≤ 6 by omega), fun u hu => hr.2.2.1 u (by have : u < k := hu; omega), hr.2.2.2⟩
        exact aw_ireturn dX2_undo_60 rfl (by first | rfl | exact zB_nar _) (tPub0.of hfin hr3 hk2 e0)
      | succ n ih =>
        intro e he μ2 f hf hT hk2
        have hm := hT.1
        have h1 := hT.2.1
        have h3 := hT.2.2.2.1
        refine aw_iload_n (i := 1) (q := 23) dX2_undo_22 rfl rfl rfl ?_
        refine aw_sipush (v := 1980) (q := 26) dX2_undo_23 rfl rfl ?_
        refine aw_icmp_ge (tgt := 56) (q := 29) dX2_undo_26 (by decide) rfl (fun hc => absurd hc (nI_ge (b := 1980) (a := e) (by omega) (by omega))) (fun _ => ?_)
        first | refine aw_aload_n (i := 0) (q := 30) dX2_undo_29 rfl rfl rfl ?_ | refine aw_aloadN_n (i := 0) (q := 30) dX2_undo_29 rfl rfl rfl ?_ | refine aw_aloadQ_n (i := 0) (q := 30) dX2_undo_29 rfl rfl rfl ?_
        refine aw_getfield (q := 33) dX2_undo_30 gf_X2_7_2 (by assumption) rfl rfl ?_
        refine aw_iload_n (i := 1) (q := 34) dX2_undo_33 rfl rfl rfl ?_
        first | refine aw_aload_n (i := 0) (q := 35) dX2_undo_34 rfl rfl rfl ?_ | refine aw_aloadN_n (i := 0) (q := 35) dX2_undo_34 rfl rfl rfl ?_ | refine aw_aloadQ_n (i := 0) (q := 35) dX2_undo_34 rfl rfl rfl ?_
        refine aw_getfield (q := 38) dX2_undo_35 gf_X2_16_2 (by assumption) rfl rfl ?_
        first | refine aw_aload_n (i := 0) (q := 39) dX2_undo_38 rfl rfl rfl ?_ | refine aw_aloadN_n (i := 0) (q := 39) dX2_undo_38 rfl rfl rfl ?_ | refine aw_aloadQ_n (i := 0) (q := 39) dX2_undo_38 rfl rfl rfl ?_
        refine aw_getfield (q := 42) dX2_undo_39 gf_X2_45_2 (by assumption) rfl rfl ?_
        refine aw_sipush (v := 1980) (q := 45) dX2_undo_42 rfl rfl ?_
        refine aw_imul (q := 46) dX2_undo_45 rfl ?_
        refine aw_iload_n (i := 1) (q := 47) dX2_undo_46 rfl rfl rfl ?_
        refine aw_iadd (q := 48) dX2_undo_47 rfl ?_
        have hix : nI k * 1980 + nI e = nI (1980 * k + e) := by rw [Nat.mul_comm, ← nI_add, ← pk_mul]; rfl
        refine aw_iald (q := 49) (v := K 3 (1980 * k + e)) (1980 * k + e) dX2_undo_48 (by assumption) (by first | assumption | (simp only [← nI_add, ← pk_mul]; rfl) | rfl) (by omega) (by omega) (rfl) rfl ?_
        refine aw_iast (q := 50) (e) dX2_undo_49 h1 (by first | assumption | simp) (by first | assumption | (simp only [← nI_add, ← pk_mul]; rfl) | rfl) (by omega) (by omega) rfl (fun μ3 hg_μ3 => ?_)
        have h1 : μ3 _ = some _ := hg_μ3 ▸ updM_eq _ _ _
        obtain ⟨hT3, hk3⟩ := hT.st1 hg_μ3
        rw [setK_twice, setK_eq] at hT3
        refine aw_iinc (q := 53) dX2_undo_50 rfl (by first | exact nI_1 _ | rfl) (by decide) rfl ?_
        refine aw_goto (tgt := 22) dX2_undo_53 (by decide) ?_
        exact aw_locals (by exact ⟨rfl, rfl, trivial⟩) (ih (e + 1) (by omega) μ3 _ (fun j hj => by (by_cases hje : j = e; (subst hje; exact pk_us); (rw [pk_un hje]; exact hf j (by omega)))) hT3 (hk2.tr hk3))
    exact aw_locals (by exact ⟨rfl, rfl, trivial⟩) (loop 1980 0 (by omega) μ1 (setK K 0 (upd (K 0) 0 (nI k)) 1) (fun j hj => by omega) (by rw [setK_self]; exact hT1.1) hk1)
theorem C2_save {x : Int32} (hS : zTS G μ m lam K P R) : Meets G 2 MX2_save [.ref m, .int x] μ (tPub0 G μ m lam (tSaveC P R x)) 0 0 := by
  obtain ⟨hT, hr⟩ := hS
  have hm := hT.m
  refine meets_of (by decide +kernel) (Nat.le_of_ble_eq_true rfl) ?_
  refine aw_iload_n (i := 1) (q := 1) dX2_save_0 rfl rfl rfl ?_
  refine aw_iconst (v := 0) (q := 2) dX2_save_1 rfl rfl ?_
  refine aw_iconst (v := 1) (q := 3) dX2_save_2 rfl rfl ?_
  refine aw_callS (q := 6) dX2_save_3 (C2_in) cs_X2_49 rfl rfl (by decide) (by decide) (by first | exact Nat.le_of_ble_eq_true rfl | simp [zcat_rf, Value.category]) rfl (zpk ?_)
  refine aw_if_ne (tgt := 12) (q := 9) dX2_save_6 (by decide) rfl (fun ha => ?_) (fun ha => ?_)
  · skip
    obtain ⟨c, hc, rfl⟩ := tIx (v := 2) (n := 2) rfl (by omega) (zB_1 ha)
    have e0 : tSaveC P R (nI c) = (P, (R.1, fun p => if p = c then some P else R.2.1 p, R.2.2), P 0 0 6) := by rw [tSaveC, if_pos (zB_1 ha), nI_clamp (by omega)]
    refine aw_iconst (v := 0) (q := 13) dX2_save_12 rfl rfl ?_
    refine aw_istore_n (i := 2) (q := 14) dX2_save_13 rfl (by decide) rfl ?_
    have loop : ∀ n e, e + n = 1980 → ∀ (μ2 : zM) (f : Nat → Int32), (∀ j, j < e → f (1980 * c + j) = K 1 j) → (∀ j, (j < 1980 * c ∨ 1980 * c + 1980 ≤ j) → f j = K 4 j) → zTP G μ2 m lam (setK K 4 f) P → zKp tTw μ μ2 → AW G 2 MX2_save (tPub0 G μ m lam (tSaveC P R (nI c))) 0 0 14 [(0, .ref m), (1, .int (nI c)), (2, .int (nI e))] [] μ2 := by
      intro n
      induction n with
      | zero =>
        intro e he μ2 f hf hg hT hk2
        have hm := hT.m
        have h5 := hT.a5
        refine aw_iload_n (i := 2) (q := 15) dX2_save_14 rfl rfl rfl ?_
        refine aw_sipush (v := 1980) (q := 18) dX2_save_15 rfl rfl ?_
        refine aw_icmp_ge (tgt := 45) (q := 21) dX2_save_18 (by decide) rfl (fun _ => ?_) (fun hc => absurd (nI_le (a := 1980) (by omega) (by omega)) hc)
        first | refine aw_aload_n (i := 0) (q := 46) dX2_save_45 rfl rfl rfl ?_ | refine aw_aloadN_n (i := 0) (q := 46) dX2_save_45 rfl rfl rfl ?_ | refine aw_aloadQ_n (i := 0) (q := 46) dX2_save_45 rfl rfl rfl ?_
        refine aw_getfield (q := 49) dX2_save_46 gf_X2_22_2 (by assumption) rfl rfl ?_
        refine aw_iload_n (i := 1) (q := 50) dX2_save_49 rfl rfl rfl ?_
        refine aw_iconst (v := 1) (q := 51) dX2_save_50 rfl rfl ?_
        first | refine aw_bast (q := 52) (c) dX2_save_51 h5 (by first | assumption | simp) (by first | assumption | (simp only [← nI_add, ← pk_mul]; rfl) | rfl) (by omega) (by omega) rfl (fun μ3 hg_μ3 => ?_) | refine aw_zast (q := 52) (c) dX2_save_51 h5 (by first | assumption | simp) (by first | assumption | (simp only [← nI_add, ← pk_mul]; rfl) | rfl) (by omega) (by omega) rfl (fun μ3 hg_μ3 => ?_)
        have h5 : μ3 _ = some _ := hg_μ3 ▸ updM_eq _ _ _
        obtain ⟨hT3, hk3⟩ := hT.1.st5 hg_μ3
        have hT3 := hT.other hT3 (setK_ne (by decide))
        have hm := hT3.m
        have h1 := hT3.a1
        first | refine aw_aload_n (i := 0) (q := 53) dX2_save_52 rfl rfl rfl ?_ | refine aw_aloadN_n (i := 0) (q := 53) dX2_save_52 rfl rfl rfl ?_ | refine aw_aloadQ_n (i := 0) (q := 53) dX2_save_52 rfl rfl rfl ?_
        refine aw_getfield (q := 56) dX2_save_53 gf_X2_7_2 (by assumption) rfl rfl ?_
        refine aw_bipush (v := 6) (q := 58) dX2_save_56 rfl rfl ?_
        refine aw_iald (q := 59) (v := P 0 0 6) (6) dX2_save_58 (by assumption) (by first | assumption | (simp only [← nI_add, ← pk_mul]; rfl) | rfl) (by omega) (by omega) (hT3.2.1.g (by omega)) rfl ?_
        have hr3 : tRest (setK (setK K 4 f) 5 (upd (setK K 4 f 5) c (vp_nar .boolean 1))) (R.1, fun p => if p = c then some P else R.2.1 p, R.2.2) := by
          obtain ⟨r0, r1, r2, r3, r4, r5, r6, r7⟩ := hr
          refine ⟨r0, r1, r2, fun p hp => ?_, r4, r5, r6, r7⟩
          show tSav (upd (K 5) c (vp_nar .boolean 1) p) (fun j => f (1980 * p + j)) (if p = c then some P else R.2.1 p)
          by_cases hpc : p = c
          · subst hpc
            rw [if_pos rfl, pk_us]
            exact ⟨rfl, hT.2.1.congr (fun j hj => hf j (by omega))⟩
          · rw [if_neg hpc, pk_un hpc]
            have := r3 p hp
            have ef : ∀ j, j < 1980 → f (1980 * p + j) = K 4 (1980 * p + j) := fun j hj => hg _ (by omega)
            revert this
            cases R.2.1 p with
            | none => exact id
            | some Q => exact fun h => ⟨h.1, h.2.congr ef⟩
        exact aw_ireturn dX2_save_59 rfl (by first | rfl | exact zB_nar _) (tPub0.of hT3 hr3 (hk2.tr hk3) e0)
      | succ n ih =>
        intro e he μ2 f hf hg hT hk2
        have hm := hT.m
        have h1 := hT.a1
        have h4 := hT.a4
        refine aw_iload_n (i := 2) (q := 15) dX2_save_14 rfl rfl rfl ?_
        refine aw_sipush (v := 1980) (q := 18) dX2_save_15 rfl rfl ?_
        refine aw_icmp_ge (tgt := 45) (q := 21) dX2_save_18 (by decide) rfl (fun hc => absurd hc (nI_ge (b := 1980) (a := e) (by omega) (by omega))) (fun _ => ?_)
        first | refine aw_aload_n (i := 0) (q := 22) dX2_save_21 rfl rfl rfl ?_ | refine aw_aloadN_n (i := 0) (q := 22) dX2_save_21 rfl rfl rfl ?_ | refine aw_aloadQ_n (i := 0) (q := 22) dX2_save_21 rfl rfl rfl ?_
        refine aw_getfield (q := 25) dX2_save_22 gf_X2_19_2 (by assumption) rfl rfl ?_
        refine aw_iload_n (i := 1) (q := 26) dX2_save_25 rfl rfl rfl ?_
        refine aw_sipush (v := 1980) (q := 29) dX2_save_26 rfl rfl ?_
        refine aw_imul (q := 30) dX2_save_29 rfl ?_
        refine aw_iload_n (i := 2) (q := 31) dX2_save_30 rfl rfl rfl ?_
        refine aw_iadd (q := 32) dX2_save_31 rfl ?_
        first | refine aw_aload_n (i := 0) (q := 33) dX2_save_32 rfl rfl rfl ?_ | refine aw_aloadN_n (i := 0) (q := 33) dX2_save_32 rfl rfl rfl ?_ | refine aw_aloadQ_n (i := 0) (q := 33) dX2_save_32 rfl rfl rfl ?_
        refine aw_getfield (q := 36) dX2_save_33 gf_X2_7_2 (by assumption) rfl rfl ?_
        refine aw_iload_n (i := 2) (q := 37) dX2_save_36 rfl rfl rfl ?_
        refine aw_iald (q := 38) (v := K 1 e) (e) dX2_save_37 (by assumption) (by first | assumption | (simp only [← nI_add, ← pk_mul]; rfl) | rfl) (by omega) (by omega) (rfl) rfl ?_
        have hix : nI c * 1980 + nI e = nI (1980 * c + e) := by rw [Nat.mul_comm, ← nI_add, ← pk_mul]; rfl
        refine aw_iast (q := 39) (1980 * c + e) dX2_save_38 h4 (by first | assumption | simp) (by first | assumption | (simp only [← nI_add, ← pk_mul]; rfl) | rfl) (by omega) (by omega) rfl (fun μ3 hg_μ3 => ?_)
        have h4 : μ3 _ = some _ := hg_μ3 ▸ updM_eq _ _ _
        obtain ⟨hT3, hk3⟩ := hT.1.st4 hg_μ3
        rw [setK_twice, setK_eq] at hT3
        refine aw_iinc (q := 42) dX2_save_39 rfl (by first | exact nI_1 _ | rfl) (by decide) rfl ?_
        refine aw_goto (tgt := 14) dX2_save_42 (by decide) ?_
        exact aw_locals (by exact ⟨rfl, rfl, rfl, trivial⟩) (ih (e + 1) (by omega) μ3 _ (fun j hj => by (by_cases hje : j = e; (subst hje; exact pk_us); (rw [pk_un (by omega)]; exact hf j (by omega)))) (fun j hj => by (rw [pk_un (by omega)]; exact hg j hj)) (hT.other hT3 (by rw [setK_ne (by decide), setK_ne (by decide)])) (hk2.tr hk3))
    exact aw_locals (by exact ⟨rfl, rfl, rfl, trivial⟩) (loop 1980 0 (by omega) μ (K 4) (fun j hj => by omega) (fun j hj => rfl) (by rw [setK_self]; exact hT) zKp.rf)
  · refine aw_bipush (v := (-2)) (q := 11) dX2_save_9 rfl rfl ?_
    exact aw_ireturn dX2_save_11 rfl (by first | rfl | exact zB_nar _) (tPub0.same ⟨hT, hr⟩ (if_neg (zB_0 ha)))
theorem C2_restore {x : Int32} (hS : zTS G μ m lam K P R) (hok : ∀ p Q, p < 2 → R.2.1 p = some Q → tOk Q) : Meets G 2 MX2_restore [.ref m, .int x] μ (tPub0 G μ m lam (tRestC P R x)) 0 0 := by
  have hm := hS.1.m
  have h5 := hS.1.a5
  refine meets_of (by decide +kernel) (Nat.le_of_ble_eq_true rfl) ?_
  refine aw_iload_n (i := 1) (q := 1) dX2_restore_0 rfl rfl rfl ?_
  refine aw_iconst (v := 0) (q := 2) dX2_restore_1 rfl rfl ?_
  refine aw_iconst (v := 1) (q := 3) dX2_restore_2 rfl rfl ?_
  refine aw_callS (q := 6) dX2_restore_3 (C2_in) cs_X2_49 rfl rfl (by decide) (by decide) (by first | exact Nat.le_of_ble_eq_true rfl | simp [zcat_rf, Value.category]) rfl (zpk ?_)
  refine aw_if_ne (tgt := 12) (q := 9) dX2_restore_6 (by decide) rfl (fun ha => ?_) (fun ha => ?_)
  · skip
    obtain ⟨c, hc, rfl⟩ := tIx (v := 2) (n := 2) rfl (by omega) (zB_1 ha)
    have hsv := hS.2.2.2.2.1 c hc
    cases hQ : R.2.1 c with
    | none =>
      rw [hQ] at hsv
      have e0 : tRestC P R (nI c) = (P, R, -5) := by rw [tRestC, if_pos (zB_1 ha), nI_clamp (by omega), hQ]
      first | refine aw_aload_n (i := 0) (q := 13) dX2_restore_12 rfl rfl rfl ?_ | refine aw_aloadN_n (i := 0) (q := 13) dX2_restore_12 rfl rfl rfl ?_ | refine aw_aloadQ_n (i := 0) (q := 13) dX2_restore_12 rfl rfl rfl ?_
      refine aw_getfield (q := 16) dX2_restore_13 gf_X2_22_2 (by assumption) rfl rfl ?_
      refine aw_iload_n (i := 1) (q := 17) dX2_restore_16 rfl rfl rfl ?_
      first | refine aw_bald (q := 18) (v := 0) (c) dX2_restore_17 (by assumption) (by first | assumption | (simp only [← nI_add, ← pk_mul]; rfl) | rfl) (by omega) (by omega) (hsv) rfl ?_ | refine aw_zald (q := 18) (v := 0) (c) dX2_restore_17 (by assumption) (by first | assumption | (simp only [← nI_add, ← pk_mul]; rfl) | rfl) (by omega) (by omega) (hsv) rfl ?_
      refine aw_if_ne (tgt := 24) (q := 21) dX2_restore_18 (by decide) rfl (fun hc => absurd (rfl) hc) (fun _ => ?_)
      refine aw_bipush (v := (-5)) (q := 23) dX2_restore_21 rfl rfl ?_
      exact aw_ireturn dX2_restore_23 rfl (by first | rfl | exact zB_nar _) (tPub0.same hS e0)
    | some Q =>
      rw [hQ] at hsv
      have e0 : tRestC P R (nI c) = (Q, tRec P R, Q 0 0 6) := by rw [tRestC, if_pos (zB_1 ha), nI_clamp (by omega), hQ]
      first | refine aw_aload_n (i := 0) (q := 13) dX2_restore_12 rfl rfl rfl ?_ | refine aw_aloadN_n (i := 0) (q := 13) dX2_restore_12 rfl rfl rfl ?_ | refine aw_aloadQ_n (i := 0) (q := 13) dX2_restore_12 rfl rfl rfl ?_
      refine aw_getfield (q := 16) dX2_restore_13 gf_X2_22_2 (by assumption) rfl rfl ?_
      refine aw_iload_n (i := 1) (q := 17) dX2_restore_16 rfl rfl rfl ?_
      first | refine aw_bald (q := 18) (v := 1) (c) dX2_restore_17 (by assumption) (by first | assumption | (simp only [← nI_add, ← pk_mul]; rfl) | rfl) (by omega) (by omega) (hsv.1) rfl ?_ | refine aw_zald (q := 18) (v := 1) (c) dX2_restore_17 (by assumption) (by first | assumption | (simp only [← nI_add, ← pk_mul]; rfl) | rfl) (by omega) (by omega) (hsv.1) rfl ?_
      refine aw_if_ne (tgt := 24) (q := 21) dX2_restore_18 (by decide) rfl (fun _ => ?_) (fun hc => absurd hc ((by decide)))
      first | refine aw_aload_n (i := 0) (q := 25) dX2_restore_24 rfl rfl rfl ?_ | refine aw_aloadN_n (i := 0) (q := 25) dX2_restore_24 rfl rfl rfl ?_ | refine aw_aloadQ_n (i := 0) (q := 25) dX2_restore_24 rfl rfl rfl ?_
      refine aw_callV (q := 28) dX2_restore_25 (C2_record hS) cv_X2_53_2 (by assumption) rfl rfl (by decide) (by decide) (by first | exact Nat.le_of_ble_eq_true rfl | simp [zcat_rf, Value.category]) rfl (fun v25 μ1 hp => ?_)
      obtain ⟨rfl, ⟨K', ⟨hT, hr⟩, e1, hf⟩, hk⟩ := hp
      have hm := hT.m
      have hsv2 := hr.2.2.2.1 c hc
      have e2 : (tRec P R).2 = R.2 := by
        unfold tRec
        split
        · rfl
        · split <;> rfl
      rw [e2, hQ] at hsv2
      refine aw_iconst (v := 0) (q := 29) dX2_restore_28 rfl rfl ?_
      refine aw_istore_n (i := 2) (q := 30) dX2_restore_29 rfl (by decide) rfl ?_
      have loop : ∀ n e, e + n = 1980 → ∀ (μ2 : zM) (f : Nat → Int32), (∀ j, j < e → f j = K' 4 (1980 * c + j)) → zTw G μ2 m lam (setK K' 1 f) → zKp tTw μ μ2 → AW G 2 MX2_restore (tPub0 G μ m lam (tRestC P R (nI c))) 0 0 30 [(0, .ref m), (1, .int (nI c)), (2, .int (nI e))] [] μ2 := by
        intro n
        induction n with
        | zero =>
          intro e he μ2 f hf hT hk2
          have hfin : zTP G μ2 m lam (setK K' 1 f) Q := ⟨hT, by (rw [setK_eq]; exact hsv2.2.congr (fun j hj => hf j (by omega))), hok c Q hc hQ⟩
          have hm := hfin.m
          have h1 := hfin.a1
          refine aw_iload_n (i := 2) (q := 31) dX2_restore_30 rfl rfl rfl ?_
          refine aw_sipush (v := 1980) (q := 34) dX2_restore_31 rfl rfl ?_
          refine aw_icmp_ge (tgt := 61) (q := 37) dX2_restore_34 (by decide) rfl (fun _ => ?_) (fun hc => absurd (nI_le (a := 1980) (by omega) (by omega)) hc)
          first | refine aw_aload_n (i := 0) (q := 62) dX2_restore_61 rfl rfl rfl ?_ | refine aw_aloadN_n (i := 0) (q := 62) dX2_restore_61 rfl rfl rfl ?_ | refine aw_aloadQ_n (i := 0) (q := 62) dX2_restore_61 rfl rfl rfl ?_
          refine aw_getfield (q := 65) dX2_restore_62 gf_X2_7_2 (by assumption) rfl rfl ?_
          refine aw_bipush (v := 6) (q := 67) dX2_restore_65 rfl rfl ?_
          refine aw_iald (q := 68) (v := Q 0 0 6) (6) dX2_restore_67 (by assumption) (by first | assumption | (simp only [← nI_add, ← pk_mul]; rfl) | rfl) (by omega) (by omega) (hfin.2.1.g (by omega)) rfl ?_
          exact aw_ireturn dX2_restore_68 rfl (by first | rfl | exact zB_nar _) (tPub0.of hfin (hr.congr (fun _ _ => rfl) rfl rfl rfl rfl) hk2 e0)
        | succ n ih =>
          intro e he μ2 f hf hT hk2
          have hm := hT.1
          have h1 := hT.2.1
          have h4 := hT.2.2.2.2.1
          refine aw_iload_n (i := 2) (q := 31) dX2_restore_30 rfl rfl rfl ?_
          refine aw_sipush (v := 1980) (q := 34) dX2_restore_31 rfl rfl ?_
          refine aw_icmp_ge (tgt := 61) (q := 37) dX2_restore_34 (by decide) rfl (fun hc => absurd hc (nI_ge (b := 1980) (a := e) (by omega) (by omega))) (fun _ => ?_)
          first | refine aw_aload_n (i := 0) (q := 38) dX2_restore_37 rfl rfl rfl ?_ | refine aw_aloadN_n (i := 0) (q := 38) dX2_restore_37 rfl rfl rfl ?_ | refine aw_aloadQ_n (i := 0) (q := 38) dX2_restore_37 rfl rfl rfl ?_
          refine aw_getfield (q := 41) dX2_restore_38 gf_X2_7_2 (by assumption) rfl rfl ?_
          refine aw_iload_n (i := 2) (q := 42) dX2_restore_41 rfl rfl rfl ?_
          first | refine aw_aload_n (i := 0) (q := 43) dX2_restore_42 rfl rfl rfl ?_ | refine aw_aloadN_n (i := 0) (q := 43) dX2_restore_42 rfl rfl rfl ?_ | refine aw_aloadQ_n (i := 0) (q := 43) dX2_restore_42 rfl rfl rfl ?_
          refine aw_getfield (q := 46) dX2_restore_43 gf_X2_19_2 (by assumption) rfl rfl ?_
          refine aw_iload_n (i := 1) (q := 47) dX2_restore_46 rfl rfl rfl ?_
          refine aw_sipush (v := 1980) (q := 50) dX2_restore_47 rfl rfl ?_
          refine aw_imul (q := 51) dX2_restore_50 rfl ?_
          refine aw_iload_n (i := 2) (q := 52) dX2_restore_51 rfl rfl rfl ?_
          refine aw_iadd (q := 53) dX2_restore_52 rfl ?_
          have hix : nI c * 1980 + nI e = nI (1980 * c + e) := by rw [Nat.mul_comm, ← nI_add, ← pk_mul]; rfl
          refine aw_iald (q := 54) (v := K' 4 (1980 * c + e)) (1980 * c + e) dX2_restore_53 (by assumption) (by first | assumption | (simp only [← nI_add, ← pk_mul]; rfl) | rfl) (by omega) (by omega) (rfl) rfl ?_
          refine aw_iast (q := 55) (e) dX2_restore_54 h1 (by first | assumption | simp) (by first | assumption | (simp only [← nI_add, ← pk_mul]; rfl) | rfl) (by omega) (by omega) rfl (fun μ3 hg_μ3 => ?_)
          have h1 : μ3 _ = some _ := hg_μ3 ▸ updM_eq _ _ _
          obtain ⟨hT3, hk3⟩ := hT.st1 hg_μ3
          rw [setK_twice, setK_eq] at hT3
          refine aw_iinc (q := 58) dX2_restore_55 rfl (by first | exact nI_1 _ | rfl) (by decide) rfl ?_
          refine aw_goto (tgt := 30) dX2_restore_58 (by decide) ?_
          exact aw_locals (by exact ⟨rfl, rfl, rfl, trivial⟩) (ih (e + 1) (by omega) μ3 _ (fun j hj => by (by_cases hje : j = e; (subst hje; exact pk_us); (rw [pk_un hje]; exact hf j (by omega)))) hT3 (hk2.tr hk3))
      exact aw_locals (by exact ⟨rfl, rfl, rfl, trivial⟩) (loop 1980 0 (by omega) μ1 (K' 1) (fun j hj => by omega) (by rw [setK_self]; exact hT.1) hk)
  · refine aw_bipush (v := (-2)) (q := 11) dX2_restore_9 rfl rfl ?_
    exact aw_ireturn dX2_restore_11 rfl (by first | rfl | exact zB_nar _) (tPub0.same hS (if_neg (zB_0 ha)))
theorem C2_wipe (hS : zTS G μ m lam K P R) : Meets G 1 MX2_wipe [.ref m] μ (tPub0 G μ m lam (tWipe P R)) 0 0 := by
  obtain ⟨hT, hr⟩ := hS
  have hm := hT.m
  refine meets_of (by decide +kernel) (Nat.le_of_ble_eq_true rfl) ?_
  first | refine aw_aload_n (i := 0) (q := 1) dX2_wipe_0 rfl rfl rfl ?_ | refine aw_aloadN_n (i := 0) (q := 1) dX2_wipe_0 rfl rfl rfl ?_ | refine aw_aloadQ_n (i := 0) (q := 1) dX2_wipe_0 rfl rfl rfl ?_
  refine aw_getfield (q := 4) dX2_wipe_1 gf_X2_167_2 (by assumption) rfl rfl ?_
  refine aw_istore_n (i := 1) (q := 5) dX2_wipe_4 rfl (by decide) rfl ?_
  first | refine aw_aload_n (i := 0) (q := 6) dX2_wipe_5 rfl rfl rfl ?_ | refine aw_aloadN_n (i := 0) (q := 6) dX2_wipe_5 rfl rfl rfl ?_ | refine aw_aloadQ_n (i := 0) (q := 6) dX2_wipe_5 rfl rfl rfl ?_
  refine aw_iconst (v := 0) (q := 7) dX2_wipe_6 rfl rfl ?_
  refine aw_putfield (q := 10) dX2_wipe_7 gf_X2_167_2 hm (by first | assumption | simp) (by first | rfl | exact znar_rf _ _) (by first | rfl | exact zfit_rf _ _) (Nat.le_of_ble_eq_true rfl) rfl (fun μ1 hg_μ1 => ?_)
  have hm : μ1 _ = some _ := hg_μ1 ▸ updM_eq _ _ _
  simp only [List.set] at hm hg_μ1
  obtain ⟨hT1, hk1⟩ := hT.1.sc' 1 0 hg_μ1
  have hT1 := hT.other hT1 (setK_ne (by decide))
  refine aw_iload_n (i := 1) (q := 11) dX2_wipe_10 rfl rfl rfl ?_
  rw [hr.2.2.2.2.2.1]
  have hr3 : tRest (setK K 0 (upd (K 0) 1 0)) (R.1, R.2.1, (0, R.2.2.1.2), R.2.2.2) := ⟨hr.1, hr.2.1, hr.2.2.1, hr.2.2.2.1, fun j hj => by (have : j < 0 := hj; omega), rfl, Nat.zero_le _, hr.2.2.2.2.2.2.2⟩
  exact aw_ireturn dX2_wipe_11 rfl (by first | rfl | exact zB_nar _) (tPub0.of hT1 hr3 hk1 rfl)
theorem C2_rowFor {s n : Int32} (hS : zTS G μ m lam K P R) : Meets G 5 MX2_rowFor [.ref m, .int s, .int n] μ (tAsk G μ m lam P R (tRowForC P s n)) 0 0 := by
  have hm := hS.1.m
  obtain ⟨hn, hN⟩ := hS.1.2.2.s
  refine meets_of (by decide +kernel) (Nat.le_of_ble_eq_true rfl) ?_
  first | refine aw_aload_n (i := 0) (q := 1) dX2_rowFor_0 rfl rfl rfl ?_ | refine aw_aloadN_n (i := 0) (q := 1) dX2_rowFor_0 rfl rfl rfl ?_ | refine aw_aloadQ_n (i := 0) (q := 1) dX2_rowFor_0 rfl rfl rfl ?_
  refine aw_iload_n (i := 1) (q := 2) dX2_rowFor_1 rfl rfl rfl ?_
  refine aw_callV (q := 5) dX2_rowFor_2 (C2_isShow hS.1) cv_X2_97_2 (by assumption) rfl rfl (by decide) (by decide) (by first | exact Nat.le_of_ble_eq_true rfl | simp [zcat_rf, Value.category]) rfl (zpk ?_)
  refine aw_if_ne (tgt := 10) (q := 8) dX2_rowFor_5 (by decide) rfl (fun ha => ?_) (fun ha => ?_)
  · skip
    have ga := zB_1 ha
    obtain ⟨j, hj, rfl⟩ := tIx hn (by omega) ga
    refine aw_iload_n (i := 2) (q := 11) dX2_rowFor_10 rfl rfl rfl ?_
    refine aw_iconst (v := 1) (q := 12) dX2_rowFor_11 rfl rfl ?_
    refine aw_bipush (v := 40) (q := 14) dX2_rowFor_12 rfl rfl ?_
    refine aw_callS (q := 17) dX2_rowFor_14 (C2_in) cs_X2_49 rfl rfl (by decide) (by decide) (by first | exact Nat.le_of_ble_eq_true rfl | simp [zcat_rf, Value.category]) rfl (zpk ?_)
    refine aw_if_ne (tgt := 23) (q := 20) dX2_rowFor_17 (by decide) rfl (fun hb => ?_) (fun hb => ?_)
    · first | refine aw_aload_n (i := 0) (q := 24) dX2_rowFor_23 rfl rfl rfl ?_ | refine aw_aloadN_n (i := 0) (q := 24) dX2_rowFor_23 rfl rfl rfl ?_ | refine aw_aloadQ_n (i := 0) (q := 24) dX2_rowFor_23 rfl rfl rfl ?_
      refine aw_iload_n (i := 1) (q := 25) dX2_rowFor_24 rfl rfl rfl ?_
      refine aw_iload_n (i := 2) (q := 26) dX2_rowFor_25 rfl rfl rfl ?_
      have e0 : tRowForC P (nI j) n = if P 3 j 3 = 0 ∧ tTaken P (nI j) + n ≤ 96 then nI (tRow (tFreeIn P (nI j)) n) else -5 := by rw [tRowForC, if_pos ga, if_pos (zB_1 hb), nI_clamp (by omega)]
      refine aw_callV (q := 29) dX2_rowFor_26 (C2_canBook (s := j) hS.1 rfl (by omega)) cv_X2_100_2 (by assumption) rfl rfl (by decide) (by decide) (by first | exact Nat.le_of_ble_eq_true rfl | simp [zcat_rf, Value.category]) rfl (zpk ?_)
      refine aw_if_ne (tgt := 35) (q := 32) dX2_rowFor_29 (by decide) rfl (fun hc => ?_) (fun hc => ?_)
      · first | refine aw_aload_n (i := 0) (q := 36) dX2_rowFor_35 rfl rfl rfl ?_ | refine aw_aloadN_n (i := 0) (q := 36) dX2_rowFor_35 rfl rfl rfl ?_ | refine aw_aloadQ_n (i := 0) (q := 36) dX2_rowFor_35 rfl rfl rfl ?_
        refine aw_iload_n (i := 1) (q := 37) dX2_rowFor_36 rfl rfl rfl ?_
        refine aw_callV (q := 40) dX2_rowFor_37 (C2_layFree (sh := nI j) hS.1) cv_X2_103_2 (by assumption) rfl rfl (by decide) (by decide) (by first | exact Nat.le_of_ble_eq_true rfl | simp [zcat_rf, Value.category]) rfl (fun v37 μ1 hp => ?_)
        obtain ⟨rfl, ⟨f, hf, hT⟩, hk⟩ := hp
        have hm := hT.m
        first | refine aw_aload_n (i := 0) (q := 41) dX2_rowFor_40 rfl rfl rfl ?_ | refine aw_aloadN_n (i := 0) (q := 41) dX2_rowFor_40 rfl rfl rfl ?_ | refine aw_aloadQ_n (i := 0) (q := 41) dX2_rowFor_40 rfl rfl rfl ?_
        refine aw_iload_n (i := 2) (q := 42) dX2_rowFor_41 rfl rfl rfl ?_
        refine aw_callV (q := 45) dX2_rowFor_42 (C2_nextRow hT) cv_X2_107_2 (by assumption) rfl rfl (by decide) (by decide) (by first | exact Nat.le_of_ble_eq_true rfl | simp [zcat_rf, Value.category]) rfl (zpk ?_)
        exact aw_ireturn dX2_rowFor_45 rfl (by first | rfl | exact zB_nar _) (⟨by (rw [e0, if_pos (zB_1 hc), setK_eq, tRow_congr hf]), ⟨_, hT, hS.2.congr (fun _ _ => rfl) rfl rfl rfl rfl⟩, hk⟩)
      · refine aw_bipush (v := (-5)) (q := 34) dX2_rowFor_32 rfl rfl ?_
        exact aw_ireturn dX2_rowFor_34 rfl (by first | rfl | exact zB_nar _) (tAsk.same hS (by rw [e0, if_neg (zB_0 hc)]))
    · refine aw_bipush (v := (-2)) (q := 22) dX2_rowFor_20 rfl rfl ?_
      exact aw_ireturn dX2_rowFor_22 rfl (by first | rfl | exact zB_nar _) (tAsk.same hS (by rw [tRowForC, if_pos ga, if_neg (zB_0 hb)]))
  · refine aw_iconst (v := (-1)) (q := 9) dX2_rowFor_8 rfl rfl ?_
    exact aw_ireturn dX2_rowFor_9 rfl (by first | rfl | exact zB_nar _) (tAsk.same hS (by rw [tRowForC, if_neg (zB_0 ha)]))
theorem C2_mostShows {k l : Int32} (hT : zTP G μ m lam K P) (hKL : tKL P) : Meets G 3 MX2_mostShows [.ref m, .int k, .int l] μ (zPure (.int (tMostC P k l)) μ) 0 0 := by
  have hm := hT.m
  have h1 := hT.a1
  obtain ⟨hkn, hkN⟩ := hT.2.2.k
  obtain ⟨hln, hlN⟩ := hT.2.2.l
  refine meets_of (by decide +kernel) (Nat.le_of_ble_eq_true rfl) ?_
  first | refine aw_aload_n (i := 0) (q := 1) dX2_mostShows_0 rfl rfl rfl ?_ | refine aw_aloadN_n (i := 0) (q := 1) dX2_mostShows_0 rfl rfl rfl ?_ | refine aw_aloadQ_n (i := 0) (q := 1) dX2_mostShows_0 rfl rfl rfl ?_
  refine aw_iload_n (i := 1) (q := 2) dX2_mostShows_1 rfl rfl rfl ?_
  refine aw_callV (q := 5) dX2_mostShows_2 (C2_isKind hT) cv_X2_56_2 (by assumption) rfl rfl (by decide) (by decide) (by first | exact Nat.le_of_ble_eq_true rfl | simp [zcat_rf, Value.category]) rfl (zpk ?_)
  refine aw_if_eq (tgt := 16) (q := 8) dX2_mostShows_5 (by decide) rfl (fun ha => ?_) (fun ha => ?_)
  · refine aw_iconst (v := (-1)) (q := 17) dX2_mostShows_16 rfl rfl ?_
    exact aw_ireturn dX2_mostShows_17 rfl (by first | rfl | exact zB_nar _) (by refine ⟨?_, rfl⟩; rw [tMostC, if_neg (fun h => zB_0 ha h.1)])
  · first | refine aw_aload_n (i := 0) (q := 9) dX2_mostShows_8 rfl rfl rfl ?_ | refine aw_aloadN_n (i := 0) (q := 9) dX2_mostShows_8 rfl rfl rfl ?_ | refine aw_aloadQ_n (i := 0) (q := 9) dX2_mostShows_8 rfl rfl rfl ?_
    refine aw_iload_n (i := 2) (q := 10) dX2_mostShows_9 rfl rfl rfl ?_
    refine aw_callV (q := 13) dX2_mostShows_10 (C2_isLamp hT) cv_X2_68_2 (by assumption) rfl rfl (by decide) (by decide) (by first | exact Nat.le_of_ble_eq_true rfl | simp [zcat_rf, Value.category]) rfl (zpk ?_)
    refine aw_if_ne (tgt := 18) (q := 16) dX2_mostShows_13 (by decide) rfl (fun hb => ?_) (fun hb => ?_)
    · skip
      have ga := zB_1 ha
      have gb := zB_1 hb
      obtain ⟨i, hi, rfl⟩ := tIx hkn (by omega) ga
      obtain ⟨j, hj, rfl⟩ := tIx hln (by omega) gb
      obtain ⟨w, w1, w2, ew⟩ := hKL.1 i hi
      obtain ⟨L, u, L1, L2, u1, eL, eu⟩ := hKL.2 j hj
      have e0 : tMostC P (nI i) (nI j) = nI (tMostN (P 1 i 1) (nI L) w 5001 u) := by rw [tMostC, if_pos ⟨ga, gb⟩, nI_clamp (by omega), nI_clamp (by omega), ew, eL, eu, nI_clamp (by omega), nI_clamp (by omega)]
      rw [e0]
      first | refine aw_aload_n (i := 0) (q := 19) dX2_mostShows_18 rfl rfl rfl ?_ | refine aw_aloadN_n (i := 0) (q := 19) dX2_mostShows_18 rfl rfl rfl ?_ | refine aw_aloadQ_n (i := 0) (q := 19) dX2_mostShows_18 rfl rfl rfl ?_
      refine aw_getfield (q := 22) dX2_mostShows_19 gf_X2_7_2 (by assumption) rfl rfl ?_
      refine aw_bipush (v := 50) (q := 24) dX2_mostShows_22 rfl rfl ?_
      refine aw_iconst (v := 4) (q := 25) dX2_mostShows_24 rfl rfl ?_
      refine aw_iload_n (i := 2) (q := 26) dX2_mostShows_25 rfl rfl rfl ?_
      refine aw_imul (q := 27) dX2_mostShows_26 rfl ?_
      refine aw_iadd (q := 28) dX2_mostShows_27 rfl ?_
      refine aw_iconst (v := 1) (q := 29) dX2_mostShows_28 rfl rfl ?_
      refine aw_iadd (q := 30) dX2_mostShows_29 rfl ?_
      refine aw_iald (q := 31) (v := nI u) (50 + 4 * j + 1) dX2_mostShows_30 (by assumption) (by first | assumption | (simp only [← nI_add, ← pk_mul]; rfl) | rfl) (by omega) (by omega) ((hT.2.1.la (by omega) (by omega)).trans eu) rfl ?_
      refine aw_istore_n (i := 3) (q := 32) dX2_mostShows_31 rfl (by decide) rfl ?_
      first | refine aw_aload_n (i := 0) (q := 33) dX2_mostShows_32 rfl rfl rfl ?_ | refine aw_aloadN_n (i := 0) (q := 33) dX2_mostShows_32 rfl rfl rfl ?_ | refine aw_aloadQ_n (i := 0) (q := 33) dX2_mostShows_32 rfl rfl rfl ?_
      refine aw_getfield (q := 36) dX2_mostShows_33 gf_X2_7_2 (by assumption) rfl rfl ?_
      refine aw_bipush (v := 50) (q := 38) dX2_mostShows_36 rfl rfl ?_
      refine aw_iconst (v := 4) (q := 39) dX2_mostShows_38 rfl rfl ?_
      refine aw_iload_n (i := 2) (q := 40) dX2_mostShows_39 rfl rfl rfl ?_
      refine aw_imul (q := 41) dX2_mostShows_40 rfl ?_
      refine aw_iadd (q := 42) dX2_mostShows_41 rfl ?_
      refine aw_iald (q := 43) (v := nI L) (50 + 4 * j) dX2_mostShows_42 (by assumption) (by first | assumption | (simp only [← nI_add, ← pk_mul]; rfl) | rfl) (by omega) (by omega) ((hT.2.1.la (c := 0) (by omega) (by omega)).trans eL) rfl ?_
      refine aw_istore (q := 45) dX2_mostShows_43 (by decide) rfl ?_
      refine aw_iconst (v := 0) (q := 46) dX2_mostShows_45 rfl rfl ?_
      refine aw_istore (q := 48) dX2_mostShows_46 (by decide) rfl ?_
      have loop : ∀ f h n, L < h + f → h ≤ L → n + tMostN (P 1 i 1) (nI L) w f h = tMostN (P 1 i 1) (nI L) w 5001 u → n + f ≤ 5001 → AW G 3 MX2_mostShows (zPure (.int (nI (tMostN (P 1 i 1) (nI L) w 5001 u))) μ) 0 0 48 [(0, .ref m), (1, .int (nI i)), (2, .int (nI j)), (3, .int (nI h)), (4, .int (nI L)), (5, .int (nI n))] [] μ := by
        intro f
        induction f with
        | zero => intro h n h1 h2; omega
        | succ f ih =>
          intro h n hf hh he hn
          have stop : ¬ (P 1 i 1 ≤ zBright (nI L) (nI h) ∧ nI h + nI w ≤ nI L) → n = tMostN (P 1 i 1) (nI L) w 5001 u := by
            intro g
            rw [← he]
            show n = n + (if _ then _ else _)
            rw [if_neg g]
            rfl
          refine aw_iload_n (i := 3) (q := 49) dX2_mostShows_48 rfl rfl rfl ?_
          refine aw_iload (q := 51) dX2_mostShows_49 rfl rfl ?_
          refine aw_callS (q := 54) dX2_mostShows_51 (C2_bright (nI_ne0 (by omega) (by omega))) cs_X2_60 rfl rfl (by decide) (by decide) (by first | exact Nat.le_of_ble_eq_true rfl | simp [zcat_rf, Value.category]) rfl (zpk ?_)
          first | refine aw_aload_n (i := 0) (q := 55) dX2_mostShows_54 rfl rfl rfl ?_ | refine aw_aloadN_n (i := 0) (q := 55) dX2_mostShows_54 rfl rfl rfl ?_ | refine aw_aloadQ_n (i := 0) (q := 55) dX2_mostShows_54 rfl rfl rfl ?_
          refine aw_getfield (q := 58) dX2_mostShows_55 gf_X2_7_2 (by assumption) rfl rfl ?_
          refine aw_bipush (v := 20) (q := 60) dX2_mostShows_58 rfl rfl ?_
          refine aw_iconst (v := 3) (q := 61) dX2_mostShows_60 rfl rfl ?_
          refine aw_iload_n (i := 1) (q := 62) dX2_mostShows_61 rfl rfl rfl ?_
          refine aw_imul (q := 63) dX2_mostShows_62 rfl ?_
          refine aw_iadd (q := 64) dX2_mostShows_63 rfl ?_
          refine aw_iconst (v := 1) (q := 65) dX2_mostShows_64 rfl rfl ?_
          refine aw_iadd (q := 66) dX2_mostShows_65 rfl ?_
          refine aw_iald (q := 67) (v := P 1 i 1) (20 + 3 * i + 1) dX2_mostShows_66 (by assumption) (by first | assumption | (simp only [← nI_add, ← pk_mul]; rfl) | rfl) (by omega) (by omega) (hT.2.1.ki (by omega) (by omega)) rfl ?_
          refine aw_icmp_lt (tgt := 108) (q := 70) dX2_mostShows_67 (by decide) rfl (fun hc => ?_) (fun hc => ?_)
          · refine aw_iload (q := 110) dX2_mostShows_108 rfl rfl ?_
            exact aw_ireturn dX2_mostShows_110 rfl (by first | rfl | exact zB_nar _) (by refine ⟨?_, rfl⟩; rw [← stop (fun g => absurd g.1 (Int32.not_le.mpr hc))])
          · refine aw_iload_n (i := 3) (q := 71) dX2_mostShows_70 rfl rfl rfl ?_
            first | refine aw_aload_n (i := 0) (q := 72) dX2_mostShows_71 rfl rfl rfl ?_ | refine aw_aloadN_n (i := 0) (q := 72) dX2_mostShows_71 rfl rfl rfl ?_ | refine aw_aloadQ_n (i := 0) (q := 72) dX2_mostShows_71 rfl rfl rfl ?_
            refine aw_getfield (q := 75) dX2_mostShows_72 gf_X2_7_2 (by assumption) rfl rfl ?_
            refine aw_bipush (v := 20) (q := 77) dX2_mostShows_75 rfl rfl ?_
            refine aw_iconst (v := 3) (q := 78) dX2_mostShows_77 rfl rfl ?_
            refine aw_iload_n (i := 1) (q := 79) dX2_mostShows_78 rfl rfl rfl ?_
            refine aw_imul (q := 80) dX2_mostShows_79 rfl ?_
            refine aw_iadd (q := 81) dX2_mostShows_80 rfl ?_
            refine aw_iald (q := 82) (v := nI w) (20 + 3 * i) dX2_mostShows_81 (by assumption) (by first | assumption | (simp only [← nI_add, ← pk_mul]; rfl) | rfl) (by omega) (by omega) ((hT.2.1.ki (c := 0) (by omega) (by omega)).trans ew) rfl ?_
            refine aw_iadd (q := 83) dX2_mostShows_82 rfl ?_
            refine aw_iload (q := 85) dX2_mostShows_83 rfl rfl ?_
            refine aw_icmp_gt (tgt := 108) (q := 88) dX2_mostShows_85 (by decide) rfl (fun hd => ?_) (fun hd => ?_)
            · refine aw_iload (q := 110) dX2_mostShows_108 rfl rfl ?_
              exact aw_ireturn dX2_mostShows_110 rfl (by first | rfl | exact zB_nar _) (by refine ⟨?_, rfl⟩; rw [← stop (fun g => absurd g.2 (Int32.not_le.mpr hd))])
            · refine aw_iload_n (i := 3) (q := 89) dX2_mostShows_88 rfl rfl rfl ?_
              first | refine aw_aload_n (i := 0) (q := 90) dX2_mostShows_89 rfl rfl rfl ?_ | refine aw_aloadN_n (i := 0) (q := 90) dX2_mostShows_89 rfl rfl rfl ?_ | refine aw_aloadQ_n (i := 0) (q := 90) dX2_mostShows_89 rfl rfl rfl ?_
              refine aw_getfield (q := 93) dX2_mostShows_90 gf_X2_7_2 (by assumption) rfl rfl ?_
              refine aw_bipush (v := 20) (q := 95) dX2_mostShows_93 rfl rfl ?_
              refine aw_iconst (v := 3) (q := 96) dX2_mostShows_95 rfl rfl ?_
              refine aw_iload_n (i := 1) (q := 97) dX2_mostShows_96 rfl rfl rfl ?_
              refine aw_imul (q := 98) dX2_mostShows_97 rfl ?_
              refine aw_iadd (q := 99) dX2_mostShows_98 rfl ?_
              have go : P 1 i 1 ≤ zBright (nI L) (nI h) ∧ nI h + nI w ≤ nI L := ⟨Int32.not_lt.mp hc, Int32.not_lt.mp hd⟩
              have hw := go.2
              rw [nI_add] at hw
              have hw2 := (nI_leI (by omega) (by omega)).mp hw
              refine aw_iald (q := 100) (v := nI w) (20 + 3 * i) dX2_mostShows_99 (by assumption) (by first | assumption | (simp only [← nI_add, ← pk_mul]; rfl) | rfl) (by omega) (by omega) ((hT.2.1.ki (c := 0) (by omega) (by omega)).trans ew) rfl ?_
              refine aw_iadd (q := 101) dX2_mostShows_100 rfl ?_
              refine aw_istore_n (i := 3) (q := 102) dX2_mostShows_101 rfl (by decide) rfl ?_
              refine aw_iinc (q := 105) dX2_mostShows_102 rfl (by first | exact nI_1 _ | rfl) (by decide) rfl ?_
              refine aw_goto (tgt := 48) dX2_mostShows_105 (by decide) ?_
              have he2 : n + 1 + tMostN (P 1 i 1) (nI L) w f (h + w) = tMostN (P 1 i 1) (nI L) w 5001 u := by
                rw [← he]
                show _ = n + (if _ then _ else _)
                rw [if_pos go]
                omega
              exact aw_locals (by exact ⟨rfl, rfl, rfl, by rw [nI_add]; rfl, rfl, rfl, trivial⟩) (ih (h + w) (n + 1) (by omega) hw2 he2 (by omega))
      exact aw_locals (by exact ⟨rfl, rfl, rfl, rfl, rfl, rfl, trivial⟩) (loop 5001 u 0 (by omega) u1 (Nat.zero_add _) (by omega))
    · refine aw_iconst (v := (-1)) (q := 17) dX2_mostShows_16 rfl rfl ?_
      exact aw_ireturn dX2_mostShows_17 rfl (by first | rfl | exact zB_nar _) (by refine ⟨?_, rfl⟩; rw [tMostC, if_neg (fun h => zB_0 hb h.2)])
end ZTW20
