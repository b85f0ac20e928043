/-! THE TWIN, part 15: what a call does: set, kind, price, lamp, fit, plan -/
set_option maxRecDepth 100000
/-- what a call leaves and answers -/
abbrev tT : Type := zP × tR × Int32
def tMost (x : Int32) : Int32 := if x = 0 then 14 else if x = 1 then 30 else if x = 5 then 1 else 100
def tSet (P : zP) (R : tR) (x y : Int32) : tT := if (0 ≤ x ∧ x ≤ 5) ∧ 0 ≤ y ∧ y ≤ tMost x then (updP P 0 0 x.toNatClampNeg y, tRec P R, P 0 0 x.toNatClampNeg) else (P, R, -2)
def tKindC (P : zP) (R : tR) (w l c : Int32) : tT :=
  if (1 ≤ w ∧ w ≤ 40) ∧ (10 ≤ l ∧ l ≤ 90) ∧ (0 ≤ c ∧ c ≤ 5000) then
    if P 0 0 7 = 10 then (P, R, -4)
    else (updP (updP (updP (updP P 1 (pcn P 7) 0 w) 1 (pcn P 7) 1 l) 1 (pcn P 7) 2 c) 0 0 7 (nI (pcn P 7 + 1)), tRec P R, nI (pcn P 7))
  else (P, R, -2)
def tPriceC (P : zP) (R : tR) (k c : Int32) : tT :=
  if 0 ≤ k ∧ k ≤ P 0 0 7 - 1 then
    if 0 ≤ c ∧ c ≤ 5000 then (updP P 1 k.toNatClampNeg 2 c, tRec P R, P 1 k.toNatClampNeg 2) else (P, R, -2)
  else (P, R, -1)
def tLampC (P : zP) (R : tR) (l : Int32) : tT :=
  if 50 ≤ l ∧ l ≤ 5000 then
    if P 0 0 8 = 12 then (P, R, -4)
    else (updP (updP (updP (updP (updP P 2 (pcn P 8) 0 l) 2 (pcn P 8) 1 0) 2 (pcn P 8) 2 0) 2 (pcn P 8) 3 0) 0 0 8 (nI (pcn P 8 + 1)), tRec P R, nI (pcn P 8))
  else (P, R, -2)
def tFitC (P : zP) (R : tR) (l : Int32) : tT :=
  if 0 ≤ l ∧ l ≤ P 0 0 8 - 1 then
    if P 2 l.toNatClampNeg 2 = 0 then (tPutIn P l.toNatClampNeg, tRec P R, tFit P) else (P, R, -5)
  else (P, R, -1)
def tShowAdd (P : zP) (d s k : Int32) : zP := updP (updP (updP (updP (updP (updP (updP (updP P 3 (pcn P 9) 0 k) 3 (pcn P 9) 1 d) 3 (pcn P 9) 2 s) 3 (pcn P 9) 3 0) 3 (pcn P 9) 4 (-6)) 3 (pcn P 9) 5 0) 3 (pcn P 9) 6 0) 0 0 9 (nI (pcn P 9 + 1))
def tPlanC (P : zP) (R : tR) (d s k : Int32) : tT :=
  if (P 0 0 6 ≤ d ∧ d ≤ P 0 0 6 + 60) ∧ (0 ≤ s ∧ s ≤ 5) then
    if 0 ≤ k ∧ k ≤ P 0 0 7 - 1 then
      if P 0 0 9 = 60 then (P, R, -4)
      else if tIsFree P d s then (tShowAdd P d s k, tRec P R, nI (pcn P 9)) else (P, R, -5)
    else (P, R, -1)
  else (P, R, -2)
/-- what a public method leaves -/
def tPub (G : zG) (μ : zM) (m : Nat) (lam : Nat → Nat) (K : Nat → Nat → Int32) (T : tT) : Option Value → zM → Prop := fun v μ' => v = some (.int T.2.2) ∧ (∃ K', zTS G μ' m lam K' T.1 T.2.1 ∧ tFrK K K') ∧ zKp tTw μ μ'
theorem tPub.same {G : zG} {μ : zM} {m : Nat} {lam : Nat → Nat} {K : Nat → Nat → Int32} {P : zP} {R : tR} {T : tT} {r : Int32} (hS : zTS G μ m lam K P R) (e : T = (P, R, r)) : tPub G μ m lam K T (some (.int r)) μ := by
  subst e
  exact ⟨rfl, ⟨K, hS, tFrK.rf⟩, zKp.rf⟩
theorem tPub.of {G : zG} {μ μ' : zM} {m : Nat} {lam : Nat → Nat} {K K2 : Nat → Nat → Int32} {P' : zP} {R' : tR} {T : tT} {r : Int32} (hT : zTP G μ' m lam K2 P') (hr : tRest K2 R') (hf : tFrK K K2) (hk : zKp tTw μ μ') (e : T = (P', R', r)) : tPub G μ m lam K T (some (.int r)) μ' := by
  subst e
  exact ⟨rfl, ⟨K2, ⟨hT, hr⟩, hf⟩, hk⟩
theorem tIx {k v : Int32} {n : Nat} (hv : v = nI n) (hn : n ≤ 100) (h : 0 ≤ k ∧ k ≤ v - 1) : ∃ j, j < n ∧ k = nI j := by
  subst hv
  have h0 : ¬ k < 0 := Int32.not_lt.mpr h.1
  have h1 : ¬ nI n ≤ k := by
    intro q
    cases n with
    | zero => exact absurd (Int32.le_trans q h.2) (by decide)
    | succ n =>
      rw [nI_pred] at h
      exact nI_ge (a := n) (b := n + 1) (by omega) (by omega) (Int32.le_trans q h.2)
  obtain ⟨j, hj, hx, -⟩ := pk_mu h0 h1 (by omega)
  exact ⟨j, hj, hx⟩
section ZTW15
variable {G : zG} {μ : zM} {m : Nat} {lam : Nat → Nat} {K : Nat → Nat → Int32} {P : zP} {R : tR}
theorem C2_set {x y : Int32} (hS : zTS G μ m lam K P R) : Meets G 2 MX2_set [.ref m, .int x, .int y] μ (tPub G μ m lam K (tSet P R x y)) 0 0 := by
  have hm := hS.1.m
  refine meets_of (by decide +kernel) (Nat.le_of_ble_eq_true rfl) ?_
  have rest : ∀ v : Int32, v = tMost x → AW G 2 MX2_set (tPub G μ m lam K (tSet P R x y)) 0 0 30 [(0, .ref m), (1, .int x), (2, .int y)] [.int v] μ := by
    intro v hv
    subst hv
    refine aw_istore_n (i := 3) (q := 31) dX2_set_30 rfl (by decide) rfl ?_
    refine aw_iload_n (i := 1) (q := 32) dX2_set_31 rfl rfl rfl ?_
    refine aw_iconst (v := 0) (q := 33) dX2_set_32 rfl rfl ?_
    refine aw_iconst (v := 5) (q := 34) dX2_set_33 rfl rfl ?_
    refine aw_callS (q := 37) dX2_set_34 (C2_in) cs_X2_49 rfl rfl (by decide) (by decide) (by first | exact Nat.le_of_ble_eq_true rfl | simp [zcat_rf, Value.category]) rfl (zpk ?_)
    refine aw_if_eq (tgt := 49) (q := 40) dX2_set_37 (by decide) rfl (fun ha => ?_) (fun ha => ?_)
    · refine aw_bipush (v := (-2)) (q := 51) dX2_set_49 rfl rfl ?_
      exact aw_ireturn dX2_set_51 rfl (by first | rfl | exact zB_nar _) (tPub.same hS (if_neg (fun h => zB_0 ha h.1)))
    · refine aw_iload_n (i := 2) (q := 41) dX2_set_40 rfl rfl rfl ?_
      refine aw_iconst (v := 0) (q := 42) dX2_set_41 rfl rfl ?_
      refine aw_iload_n (i := 3) (q := 43) dX2_set_42 rfl rfl rfl ?_
      refine aw_callS (q := 46) dX2_set_43 (C2_in) cs_X2_49 rfl rfl (by decide) (by decide) (by first | exact Nat.le_of_ble_eq_true rfl | simp [zcat_rf, Value.category]) rfl (zpk ?_)
      refine aw_if_ne (tgt := 52) (q := 49) dX2_set_46 (by decide) rfl (fun hb => ?_) (fun hb => ?_)
      · first | refine aw_aload_n (i := 0) (q := 53) dX2_set_52 rfl rfl rfl ?_ | refine aw_aloadN_n (i := 0) (q := 53) dX2_set_52 rfl rfl rfl ?_ | refine aw_aloadQ_n (i := 0) (q := 53) dX2_set_52 rfl rfl rfl ?_
        obtain ⟨j, hj, hx⟩ := tIx (v := 6) (n := 6) rfl (by omega) (zB_1 ha)
        subst hx
        refine aw_callV (q := 56) dX2_set_53 (C2_record hS) cv_X2_53_2 (by assumption) rfl rfl (by decide) (by decide) (by first | exact Nat.le_of_ble_eq_true rfl | simp [zcat_rf, Value.category]) rfl (fun v53 μ1 hp => ?_)
        obtain ⟨rfl, ⟨K', ⟨hT, hr⟩, e1, hf⟩, hk⟩ := hp
        have hT : zTP G μ1 m lam (setK K' 1 (K' 1)) P := by rw [setK_self]; exact hT
        have hm := hT.m
        have h1 := hT.a1
        first | refine aw_aload_n (i := 0) (q := 57) dX2_set_56 rfl rfl rfl ?_ | refine aw_aloadN_n (i := 0) (q := 57) dX2_set_56 rfl rfl rfl ?_ | refine aw_aloadQ_n (i := 0) (q := 57) dX2_set_56 rfl rfl rfl ?_
        refine aw_getfield (q := 60) dX2_set_57 gf_X2_7_2 (by assumption) rfl rfl ?_
        refine aw_iload_n (i := 1) (q := 61) dX2_set_60 rfl rfl rfl ?_
        refine aw_iald (q := 62) (v := P 0 0 j) (j) dX2_set_61 (by assumption) (by first | assumption | (simp only [← nI_add, ← pk_mul]; rfl) | rfl) (by omega) (by omega) (hT.2.1.g (by omega)) rfl ?_
        refine aw_istore (q := 64) dX2_set_62 (by decide) rfl ?_
        first | refine aw_aload_n (i := 0) (q := 65) dX2_set_64 rfl rfl rfl ?_ | refine aw_aloadN_n (i := 0) (q := 65) dX2_set_64 rfl rfl rfl ?_ | refine aw_aloadQ_n (i := 0) (q := 65) dX2_set_64 rfl rfl rfl ?_
        refine aw_getfield (q := 68) dX2_set_65 gf_X2_7_2 (by assumption) rfl rfl ?_
        refine aw_iload_n (i := 1) (q := 69) dX2_set_68 rfl rfl rfl ?_
        refine aw_iload_n (i := 2) (q := 70) dX2_set_69 rfl rfl rfl ?_
        refine aw_iast (q := 71) (j) dX2_set_70 h1 (by first | assumption | simp) (by first | assumption | (simp only [← nI_add, ← pk_mul]; rfl) | rfl) (by omega) (by omega) rfl (fun μt1 hg_μt1 => ?_)
        have h1 : μt1 _ = some _ := hg_μt1 ▸ updM_eq _ _ _
        obtain ⟨fμt1, hT, hk⟩ := hT.st' hk (s := 0) (i := 0) (c := j) (by omega) (show 0 < 1 by omega) (show j < 20 by omega) (by first | (simp only [tB, tW]; done) | (simp only [tB, tW]; omega)) hg_μt1 (hT.2.2.upd (by omega))
        have hm := hT.m
        have h1 := hT.a1
        refine aw_iload (q := 73) dX2_set_71 rfl rfl ?_
        exact aw_ireturn dX2_set_73 rfl (by first | rfl | exact zB_nar _) (tPub.of hT (hr.congr (fun _ _ => rfl) rfl rfl rfl rfl) (hf.tr ⟨rfl, fun _ _ => rfl⟩) hk (by rw [tSet, if_pos ⟨zB_1 ha, zB_1 hb⟩, nI_clamp (by omega)]))
      · refine aw_bipush (v := (-2)) (q := 51) dX2_set_49 rfl rfl ?_
        exact aw_ireturn dX2_set_51 rfl (by first | rfl | exact zB_nar _) (tPub.same hS (if_neg (fun h => zB_0 hb h.2)))
  refine aw_iload_n (i := 1) (q := 1) dX2_set_0 rfl rfl rfl ?_
  refine aw_if_ne (tgt := 9) (q := 4) dX2_set_1 (by decide) rfl (fun ha => ?_) (fun ha => ?_)
  · refine aw_iload_n (i := 1) (q := 10) dX2_set_9 rfl rfl rfl ?_
    refine aw_iconst (v := 1) (q := 11) dX2_set_10 rfl rfl ?_
    refine aw_icmp_ne (tgt := 19) (q := 14) dX2_set_11 (by decide) rfl (fun hb => ?_) (fun hb => ?_)
    · refine aw_iload_n (i := 1) (q := 20) dX2_set_19 rfl rfl rfl ?_
      refine aw_iconst (v := 5) (q := 21) dX2_set_20 rfl rfl ?_
      refine aw_icmp_ne (tgt := 28) (q := 24) dX2_set_21 (by decide) rfl (fun hc => ?_) (fun hc => ?_)
      · refine aw_bipush (v := 100) (q := 30) dX2_set_28 rfl rfl ?_
        exact aw_locals (by exact ⟨rfl, rfl, rfl, trivial⟩) (rest 100 (by rw [tMost, if_neg ha, if_neg hb, if_neg hc]))
      · refine aw_iconst (v := 1) (q := 25) dX2_set_24 rfl rfl ?_
        refine aw_goto (tgt := 30) dX2_set_25 (by decide) ?_
        exact aw_locals (by exact ⟨rfl, rfl, rfl, trivial⟩) (rest 1 (by rw [tMost, if_neg ha, if_neg hb, if_pos hc]))
    · refine aw_bipush (v := 30) (q := 16) dX2_set_14 rfl rfl ?_
      refine aw_goto (tgt := 30) dX2_set_16 (by decide) ?_
      exact aw_locals (by exact ⟨rfl, rfl, rfl, trivial⟩) (rest 30 (by rw [tMost, if_neg ha, if_pos hb]))
  · refine aw_bipush (v := 14) (q := 6) dX2_set_4 rfl rfl ?_
    refine aw_goto (tgt := 30) dX2_set_6 (by decide) ?_
    exact aw_locals (by exact ⟨rfl, rfl, rfl, trivial⟩) (rest 14 (by rw [tMost, if_pos ha]))
theorem C2_kind {w l c : Int32} (hS : zTS G μ m lam K P R) : Meets G 2 MX2_kind [.ref m, .int w, .int l, .int c] μ (tPub G μ m lam K (tKindC P R w l c)) 0 0 := by
  have hm := hS.1.m
  have h1 := hS.1.a1
  obtain ⟨hn, hN⟩ := hS.1.2.2.k
  have hle : P 0 0 7 ≠ 10 → pcn P 7 < 10 := fun h => by
    have : pcn P 7 ≠ 10 := fun e => h (by rw [hn, e]; rfl)
    omega
  refine meets_of (by decide +kernel) (Nat.le_of_ble_eq_true rfl) ?_
  refine aw_iload_n (i := 1) (q := 1) dX2_kind_0 rfl rfl rfl ?_
  refine aw_iconst (v := 1) (q := 2) dX2_kind_1 rfl rfl ?_
  refine aw_bipush (v := 40) (q := 4) dX2_kind_2 rfl rfl ?_
  refine aw_callS (q := 7) dX2_kind_4 (C2_in) cs_X2_49 rfl rfl (by decide) (by decide) (by first | exact Nat.le_of_ble_eq_true rfl | simp [zcat_rf, Value.category]) rfl (zpk ?_)
  refine aw_if_eq (tgt := 32) (q := 10) dX2_kind_7 (by decide) rfl (fun ha => ?_) (fun ha => ?_)
  · refine aw_bipush (v := (-2)) (q := 34) dX2_kind_32 rfl rfl ?_
    exact aw_ireturn dX2_kind_34 rfl (by first | rfl | exact zB_nar _) (tPub.same hS (if_neg (fun h => zB_0 ha h.1)))
  · refine aw_iload_n (i := 2) (q := 11) dX2_kind_10 rfl rfl rfl ?_
    refine aw_bipush (v := 10) (q := 13) dX2_kind_11 rfl rfl ?_
    refine aw_bipush (v := 90) (q := 15) dX2_kind_13 rfl rfl ?_
    refine aw_callS (q := 18) dX2_kind_15 (C2_in) cs_X2_49 rfl rfl (by decide) (by decide) (by first | exact Nat.le_of_ble_eq_true rfl | simp [zcat_rf, Value.category]) rfl (zpk ?_)
    refine aw_if_eq (tgt := 32) (q := 21) dX2_kind_18 (by decide) rfl (fun hb => ?_) (fun hb => ?_)
    · refine aw_bipush (v := (-2)) (q := 34) dX2_kind_32 rfl rfl ?_
      exact aw_ireturn dX2_kind_34 rfl (by first | rfl | exact zB_nar _) (tPub.same hS (if_neg (fun h => zB_0 hb h.2.1)))
    · refine aw_iload_n (i := 3) (q := 22) dX2_kind_21 rfl rfl rfl ?_
      refine aw_iconst (v := 0) (q := 23) dX2_kind_22 rfl rfl ?_
      refine aw_sipush (v := 5000) (q := 26) dX2_kind_23 rfl rfl ?_
      refine aw_callS (q := 29) dX2_kind_26 (C2_in) cs_X2_49 rfl rfl (by decide) (by decide) (by first | exact Nat.le_of_ble_eq_true rfl | simp [zcat_rf, Value.category]) rfl (zpk ?_)
      refine aw_if_ne (tgt := 35) (q := 32) dX2_kind_29 (by decide) rfl (fun hc => ?_) (fun hc => ?_)
      · first | refine aw_aload_n (i := 0) (q := 36) dX2_kind_35 rfl rfl rfl ?_ | refine aw_aloadN_n (i := 0) (q := 36) dX2_kind_35 rfl rfl rfl ?_ | refine aw_aloadQ_n (i := 0) (q := 36) dX2_kind_35 rfl rfl rfl ?_
        refine aw_getfield (q := 39) dX2_kind_36 gf_X2_7_2 (by assumption) rfl rfl ?_
        refine aw_bipush (v := 7) (q := 41) dX2_kind_39 rfl rfl ?_
        have good : (1 ≤ w ∧ w ≤ 40) ∧ (10 ≤ l ∧ l ≤ 90) ∧ (0 ≤ c ∧ c ≤ 5000) := ⟨zB_1 ha, zB_1 hb, zB_1 hc⟩
        refine aw_iald (q := 42) (v := P 0 0 7) (7) dX2_kind_41 (by assumption) (by first | assumption | (simp only [← nI_add, ← pk_mul]; rfl) | rfl) (by omega) (by omega) (hS.1.2.1.g (by omega)) rfl ?_
        refine aw_bipush (v := 10) (q := 44) dX2_kind_42 rfl rfl ?_
        refine aw_icmp_ne (tgt := 50) (q := 47) dX2_kind_44 (by decide) rfl (fun hd => ?_) (fun hd => ?_)
        · first | refine aw_aload_n (i := 0) (q := 51) dX2_kind_50 rfl rfl rfl ?_ | refine aw_aloadN_n (i := 0) (q := 51) dX2_kind_50 rfl rfl rfl ?_ | refine aw_aloadQ_n (i := 0) (q := 51) dX2_kind_50 rfl rfl rfl ?_
          refine aw_callV (q := 54) dX2_kind_51 (C2_record hS) cv_X2_53_2 (by assumption) rfl rfl (by decide) (by decide) (by first | exact Nat.le_of_ble_eq_true rfl | simp [zcat_rf, Value.category]) rfl (fun v51 μ1 hp => ?_)
          obtain ⟨rfl, ⟨K', ⟨hT, hr⟩, e1, hf⟩, hk⟩ := hp
          have hT : zTP G μ1 m lam (setK K' 1 (K' 1)) P := by rw [setK_self]; exact hT
          have hm := hT.m
          have h1 := hT.a1
          have hlt := hle hd
          refine aw_bipush (v := 20) (q := 56) dX2_kind_54 rfl rfl ?_
          refine aw_iconst (v := 3) (q := 57) dX2_kind_56 rfl rfl ?_
          first | refine aw_aload_n (i := 0) (q := 58) dX2_kind_57 rfl rfl rfl ?_ | refine aw_aloadN_n (i := 0) (q := 58) dX2_kind_57 rfl rfl rfl ?_ | refine aw_aloadQ_n (i := 0) (q := 58) dX2_kind_57 rfl rfl rfl ?_
          refine aw_getfield (q := 61) dX2_kind_58 gf_X2_7_2 (by assumption) rfl rfl ?_
          refine aw_bipush (v := 7) (q := 63) dX2_kind_61 rfl rfl ?_
          refine aw_iald (q := 64) (v := nI (pcn P 7)) (7) dX2_kind_63 (by assumption) (by first | assumption | (simp only [← nI_add, ← pk_mul]; rfl) | rfl) (by omega) (by omega) ((hT.2.1.g (by omega)).trans hn) rfl ?_
          refine aw_imul (q := 65) dX2_kind_64 rfl ?_
          refine aw_iadd (q := 66) dX2_kind_65 rfl ?_
          refine aw_istore (q := 68) dX2_kind_66 (by decide) rfl ?_
          first | refine aw_aload_n (i := 0) (q := 69) dX2_kind_68 rfl rfl rfl ?_ | refine aw_aloadN_n (i := 0) (q := 69) dX2_kind_68 rfl rfl rfl ?_ | refine aw_aloadQ_n (i := 0) (q := 69) dX2_kind_68 rfl rfl rfl ?_
          refine aw_getfield (q := 72) dX2_kind_69 gf_X2_7_2 (by assumption) rfl rfl ?_
          refine aw_iload (q := 74) dX2_kind_72 rfl rfl ?_
          refine aw_iload_n (i := 1) (q := 75) dX2_kind_74 rfl rfl rfl ?_
          refine aw_iast (q := 76) (20 + 3 * pcn P 7) dX2_kind_75 h1 (by first | assumption | simp) (by first | assumption | (simp only [← nI_add, ← pk_mul]; rfl) | rfl) (by omega) (by omega) rfl (fun μt2 hg_μt2 => ?_)
          have h1 : μt2 _ = some _ := hg_μt2 ▸ updM_eq _ _ _
          obtain ⟨fμt2, hT, hk⟩ := hT.st' hk (s := 1) (i := pcn P 7) (c := 0) (by omega) (show pcn P 7 < 10 by omega) (show 0 < 3 by omega) (by first | (simp only [tB, tW]; done) | (simp only [tB, tW]; omega)) hg_μt2 (hT.2.2.upd (by omega))
          have hm := hT.m
          have h1 := hT.a1
          first | refine aw_aload_n (i := 0) (q := 77) dX2_kind_76 rfl rfl rfl ?_ | refine aw_aloadN_n (i := 0) (q := 77) dX2_kind_76 rfl rfl rfl ?_ | refine aw_aloadQ_n (i := 0) (q := 77) dX2_kind_76 rfl rfl rfl ?_
          refine aw_getfield (q := 80) dX2_kind_77 gf_X2_7_2 (by assumption) rfl rfl ?_
          refine aw_iload (q := 82) dX2_kind_80 rfl rfl ?_
          refine aw_iconst (v := 1) (q := 83) dX2_kind_82 rfl rfl ?_
          refine aw_iadd (q := 84) dX2_kind_83 rfl ?_
          refine aw_iload_n (i := 2) (q := 85) dX2_kind_84 rfl rfl rfl ?_
          refine aw_iast (q := 86) (20 + 3 * pcn P 7 + 1) dX2_kind_85 h1 (by first | assumption | simp) (by first | assumption | (simp only [← nI_add, ← pk_mul]; rfl) | rfl) (by omega) (by omega) rfl (fun μt3 hg_μt3 => ?_)
          have h1 : μt3 _ = some _ := hg_μt3 ▸ updM_eq _ _ _
          obtain ⟨fμt3, hT, hk⟩ := hT.st' hk (s := 1) (i := pcn P 7) (c := 1) (by omega) (show pcn P 7 < 10 by omega) (show 1 < 3 by omega) (by first | (simp only [tB, tW]; done) | (simp only [tB, tW]; omega)) hg_μt3 (hT.2.2.upd (by omega))
          have hm := hT.m
          have h1 := hT.a1
          first | refine aw_aload_n (i := 0) (q := 87) dX2_kind_86 rfl rfl rfl ?_ | refine aw_aloadN_n (i := 0) (q := 87) dX2_kind_86 rfl rfl rfl ?_ | refine aw_aloadQ_n (i := 0) (q := 87) dX2_kind_86 rfl rfl rfl ?_
          refine aw_getfield (q := 90) dX2_kind_87 gf_X2_7_2 (by assumption) rfl rfl ?_
          refine aw_iload (q := 92) dX2_kind_90 rfl rfl ?_
          refine aw_iconst (v := 2) (q := 93) dX2_kind_92 rfl rfl ?_
          refine aw_iadd (q := 94) dX2_kind_93 rfl ?_
          refine aw_iload_n (i := 3) (q := 95) dX2_kind_94 rfl rfl rfl ?_
          refine aw_iast (q := 96) (20 + 3 * pcn P 7 + 2) dX2_kind_95 h1 (by first | assumption | simp) (by first | assumption | (simp only [← nI_add, ← pk_mul]; rfl) | rfl) (by omega) (by omega) rfl (fun μt4 hg_μt4 => ?_)
          have h1 : μt4 _ = some _ := hg_μt4 ▸ updM_eq _ _ _
          obtain ⟨fμt4, hT, hk⟩ := hT.st' hk (s := 1) (i := pcn P 7) (c := 2) (by omega) (show pcn P 7 < 10 by omega) (show 2 < 3 by omega) (by first | (simp only [tB, tW]; done) | (simp only [tB, tW]; omega)) hg_μt4 (hT.2.2.upd (by omega))
          have hm := hT.m
          have h1 := hT.a1
          first | refine aw_aload_n (i := 0) (q := 97) dX2_kind_96 rfl rfl rfl ?_ | refine aw_aloadN_n (i := 0) (q := 97) dX2_kind_96 rfl rfl rfl ?_ | refine aw_aloadQ_n (i := 0) (q := 97) dX2_kind_96 rfl rfl rfl ?_
          refine aw_getfield (q := 100) dX2_kind_97 gf_X2_7_2 (by assumption) rfl rfl ?_
          refine aw_bipush (v := 7) (q := 102) dX2_kind_100 rfl rfl ?_
          refine aw_dup2 (q := 103) dX2_kind_102 (by first | rfl | exact zcat_rf _) (by first | rfl | exact zcat_rf _) rfl ?_
          refine aw_iald (q := 104) (v := nI (pcn P 7)) (7) dX2_kind_103 (by assumption) (by first | assumption | (simp only [← nI_add, ← pk_mul]; rfl) | rfl) (by omega) (by omega) ((hT.2.1.g (by omega)).trans (by (repeat rw [updP_ne (by omega)]); exact hn)) rfl ?_
          refine aw_iconst (v := 1) (q := 105) dX2_kind_104 rfl rfl ?_
          refine aw_iadd (q := 106) dX2_kind_105 rfl ?_
          refine aw_iast (q := 107) (7) dX2_kind_106 h1 (by first | assumption | simp) (by first | assumption | (simp only [← nI_add, ← pk_mul]; rfl) | rfl) (by omega) (by omega) rfl (fun μt5 hg_μt5 => ?_)
          have h1 : μt5 _ = some _ := hg_μt5 ▸ updM_eq _ _ _
          obtain ⟨fμt5, hT, hk⟩ := hT.st' hk (s := 0) (i := 0) (c := 7) (by omega) (show 0 < 1 by omega) (show 7 < 20 by omega) (by first | (simp only [tB, tW]; done) | (simp only [tB, tW]; omega)) hg_μt5 (by rw [nI_1]; exact hT.2.2.cnt (by omega) (by omega) (show _ ≤ 10 by omega))
          have hm := hT.m
          have h1 := hT.a1
          first | refine aw_aload_n (i := 0) (q := 108) dX2_kind_107 rfl rfl rfl ?_ | refine aw_aloadN_n (i := 0) (q := 108) dX2_kind_107 rfl rfl rfl ?_ | refine aw_aloadQ_n (i := 0) (q := 108) dX2_kind_107 rfl rfl rfl ?_
          refine aw_getfield (q := 111) dX2_kind_108 gf_X2_7_2 (by assumption) rfl rfl ?_
          refine aw_bipush (v := 7) (q := 113) dX2_kind_111 rfl rfl ?_
          refine aw_iald (q := 114) (v := nI (pcn P 7 + 1)) (7) dX2_kind_113 (by assumption) (by first | assumption | (simp only [← nI_add, ← pk_mul]; rfl) | rfl) (by omega) (by omega) ((hT.2.1.g (by omega)).trans (by rw [updP_eq]; exact nI_1 _)) rfl ?_
          refine aw_iconst (v := 1) (q := 115) dX2_kind_114 rfl rfl ?_
          refine aw_isub (q := 116) dX2_kind_115 rfl ?_
          rw [nI_pred]
          exact aw_ireturn dX2_kind_116 rfl (by first | rfl | exact zB_nar _) (tPub.of hT (hr.congr (fun _ _ => rfl) rfl rfl rfl rfl) (hf.tr ⟨rfl, fun _ _ => rfl⟩) hk (by rw [tKindC, if_pos good, if_neg hd, nI_1]))
        · refine aw_bipush (v := (-4)) (q := 49) dX2_kind_47 rfl rfl ?_
          exact aw_ireturn dX2_kind_49 rfl (by first | rfl | exact zB_nar _) (tPub.same hS (by rw [tKindC, if_pos good, if_pos hd]))
      · refine aw_bipush (v := (-2)) (q := 34) dX2_kind_32 rfl rfl ?_
        exact aw_ireturn dX2_kind_34 rfl (by first | rfl | exact zB_nar _) (tPub.same hS (if_neg (fun h => zB_0 hc h.2.2)))
theorem C2_price {k c : Int32} (hS : zTS G μ m lam K P R) : Meets G 3 MX2_price [.ref m, .int k, .int c] μ (tPub G μ m lam K (tPriceC P R k c)) 0 0 := by
  obtain ⟨hn, hN⟩ := hS.1.2.2.k
  have hm := hS.1.m
  refine meets_of (by decide +kernel) (Nat.le_of_ble_eq_true rfl) ?_
  first | refine aw_aload_n (i := 0) (q := 1) dX2_price_0 rfl rfl rfl ?_ | refine aw_aloadN_n (i := 0) (q := 1) dX2_price_0 rfl rfl rfl ?_ | refine aw_aloadQ_n (i := 0) (q := 1) dX2_price_0 rfl rfl rfl ?_
  refine aw_iload_n (i := 1) (q := 2) dX2_price_1 rfl rfl rfl ?_
  refine aw_callV (q := 5) dX2_price_2 (C2_isKind hS.1) cv_X2_56_2 (by assumption) rfl rfl (by decide) (by decide) (by first | exact Nat.le_of_ble_eq_true rfl | simp [zcat_rf, Value.category]) rfl (zpk ?_)
  refine aw_if_ne (tgt := 10) (q := 8) dX2_price_5 (by decide) rfl (fun ha => ?_) (fun ha => ?_)
  · refine aw_iload_n (i := 2) (q := 11) dX2_price_10 rfl rfl rfl ?_
    refine aw_iconst (v := 0) (q := 12) dX2_price_11 rfl rfl ?_
    refine aw_sipush (v := 5000) (q := 15) dX2_price_12 rfl rfl ?_
    obtain ⟨j, hj, hx⟩ := tIx hn (by omega) (zB_1 ha)
    refine aw_callS (q := 18) dX2_price_15 (C2_in) cs_X2_49 rfl rfl (by decide) (by decide) (by first | exact Nat.le_of_ble_eq_true rfl | simp [zcat_rf, Value.category]) rfl (zpk ?_)
    refine aw_if_ne (tgt := 24) (q := 21) dX2_price_18 (by decide) rfl (fun hb => ?_) (fun hb => ?_)
    · first | refine aw_aload_n (i := 0) (q := 25) dX2_price_24 rfl rfl rfl ?_ | refine aw_aloadN_n (i := 0) (q := 25) dX2_price_24 rfl rfl rfl ?_ | refine aw_aloadQ_n (i := 0) (q := 25) dX2_price_24 rfl rfl rfl ?_
      refine aw_callV (q := 28) dX2_price_25 (C2_record hS) cv_X2_53_2 (by assumption) rfl rfl (by decide) (by decide) (by first | exact Nat.le_of_ble_eq_true rfl | simp [zcat_rf, Value.category]) rfl (fun v25 μ1 hp => ?_)
      obtain ⟨rfl, ⟨K', ⟨hT, hr⟩, e1, hf⟩, hk⟩ := hp
      have hT : zTP G μ1 m lam (setK K' 1 (K' 1)) P := by rw [setK_self]; exact hT
      have hm := hT.m
      have h1 := hT.a1
      have e9 : tPriceC P R k c = (updP P 1 j 2 c, tRec P R, P 1 j 2) := by rw [tPriceC, if_pos (zB_1 ha), if_pos (zB_1 hb), hx, nI_clamp (by omega)]
      subst hx
      first | refine aw_aload_n (i := 0) (q := 29) dX2_price_28 rfl rfl rfl ?_ | refine aw_aloadN_n (i := 0) (q := 29) dX2_price_28 rfl rfl rfl ?_ | refine aw_aloadQ_n (i := 0) (q := 29) dX2_price_28 rfl rfl rfl ?_
      refine aw_getfield (q := 32) dX2_price_29 gf_X2_7_2 (by assumption) rfl rfl ?_
      refine aw_bipush (v := 20) (q := 34) dX2_price_32 rfl rfl ?_
      refine aw_iconst (v := 3) (q := 35) dX2_price_34 rfl rfl ?_
      refine aw_iload_n (i := 1) (q := 36) dX2_price_35 rfl rfl rfl ?_
      refine aw_imul (q := 37) dX2_price_36 rfl ?_
      refine aw_iadd (q := 38) dX2_price_37 rfl ?_
      refine aw_iconst (v := 2) (q := 39) dX2_price_38 rfl rfl ?_
      refine aw_iadd (q := 40) dX2_price_39 rfl ?_
      refine aw_iald (q := 41) (v := P 1 j 2) (20 + 3 * j + 2) dX2_price_40 (by assumption) (by first | assumption | (simp only [← nI_add, ← pk_mul]; rfl) | rfl) (by omega) (by omega) (hT.2.1.ki (by omega) (by omega)) rfl ?_
      refine aw_istore_n (i := 3) (q := 42) dX2_price_41 rfl (by decide) rfl ?_
      first | refine aw_aload_n (i := 0) (q := 43) dX2_price_42 rfl rfl rfl ?_ | refine aw_aloadN_n (i := 0) (q := 43) dX2_price_42 rfl rfl rfl ?_ | refine aw_aloadQ_n (i := 0) (q := 43) dX2_price_42 rfl rfl rfl ?_
      refine aw_getfield (q := 46) dX2_price_43 gf_X2_7_2 (by assumption) rfl rfl ?_
      refine aw_bipush (v := 20) (q := 48) dX2_price_46 rfl rfl ?_
      refine aw_iconst (v := 3) (q := 49) dX2_price_48 rfl rfl ?_
      refine aw_iload_n (i := 1) (q := 50) dX2_price_49 rfl rfl rfl ?_
      refine aw_imul (q := 51) dX2_price_50 rfl ?_
      refine aw_iadd (q := 52) dX2_price_51 rfl ?_
      refine aw_iconst (v := 2) (q := 53) dX2_price_52 rfl rfl ?_
      refine aw_iadd (q := 54) dX2_price_53 rfl ?_
      refine aw_iload_n (i := 2) (q := 55) dX2_price_54 rfl rfl rfl ?_
      refine aw_iast (q := 56) (20 + 3 * j + 2) dX2_price_55 h1 (by first | assumption | simp) (by first | assumption | (simp only [← nI_add, ← pk_mul]; rfl) | rfl) (by omega) (by omega) rfl (fun μt6 hg_μt6 => ?_)
      have h1 : μt6 _ = some _ := hg_μt6 ▸ updM_eq _ _ _
      obtain ⟨fμt6, hT, hk⟩ := hT.st' hk (s := 1) (i := j) (c := 2) (by omega) (show j < 10 by omega) (show 2 < 3 by omega) (by first | (simp only [tB, tW]; done) | (simp only [tB, tW]; omega)) hg_μt6 (hT.2.2.upd (by omega))
      have hm := hT.m
      have h1 := hT.a1
      refine aw_iload_n (i := 3) (q := 57) dX2_price_56 rfl rfl rfl ?_
      exact aw_ireturn dX2_price_57 rfl (by first | rfl | exact zB_nar _) (tPub.of hT (hr.congr (fun _ _ => rfl) rfl rfl rfl rfl) (hf.tr ⟨rfl, fun _ _ => rfl⟩) hk e9)
    · refine aw_bipush (v := (-2)) (q := 23) dX2_price_21 rfl rfl ?_
      exact aw_ireturn dX2_price_23 rfl (by first | rfl | exact zB_nar _) (tPub.same hS (by rw [tPriceC, if_pos (zB_1 ha), if_neg (zB_0 hb)]))
  · refine aw_iconst (v := (-1)) (q := 9) dX2_price_8 rfl rfl ?_
    exact aw_ireturn dX2_price_9 rfl (by first | rfl | exact zB_nar _) (tPub.same hS (if_neg (zB_0 ha)))
theorem C2_lamp {l : Int32} (hS : zTS G μ m lam K P R) : Meets G 2 MX2_lamp [.ref m, .int l] μ (tPub G μ m lam K (tLampC P R l)) 0 0 := by
  have hm := hS.1.m
  have h1 := hS.1.a1
  obtain ⟨hn, hN⟩ := hS.1.2.2.l
  have hle : P 0 0 8 ≠ 12 → pcn P 8 < 12 := fun h => by
    have : pcn P 8 ≠ 12 := fun e => h (by rw [hn, e]; rfl)
    omega
  refine meets_of (by decide +kernel) (Nat.le_of_ble_eq_true rfl) ?_
  refine aw_iload_n (i := 1) (q := 1) dX2_lamp_0 rfl rfl rfl ?_
  refine aw_bipush (v := 50) (q := 3) dX2_lamp_1 rfl rfl ?_
  refine aw_sipush (v := 5000) (q := 6) dX2_lamp_3 rfl rfl ?_
  refine aw_callS (q := 9) dX2_lamp_6 (C2_in) cs_X2_49 rfl rfl (by decide) (by decide) (by first | exact Nat.le_of_ble_eq_true rfl | simp [zcat_rf, Value.category]) rfl (zpk ?_)
  refine aw_if_ne (tgt := 15) (q := 12) dX2_lamp_9 (by decide) rfl (fun ha => ?_) (fun ha => ?_)
  · first | refine aw_aload_n (i := 0) (q := 16) dX2_lamp_15 rfl rfl rfl ?_ | refine aw_aloadN_n (i := 0) (q := 16) dX2_lamp_15 rfl rfl rfl ?_ | refine aw_aloadQ_n (i := 0) (q := 16) dX2_lamp_15 rfl rfl rfl ?_
    refine aw_getfield (q := 19) dX2_lamp_16 gf_X2_7_2 (by assumption) rfl rfl ?_
    refine aw_bipush (v := 8) (q := 21) dX2_lamp_19 rfl rfl ?_
    refine aw_iald (q := 22) (v := P 0 0 8) (8) dX2_lamp_21 (by assumption) (by first | assumption | (simp only [← nI_add, ← pk_mul]; rfl) | rfl) (by omega) (by omega) (hS.1.2.1.g (by omega)) rfl ?_
    refine aw_bipush (v := 12) (q := 24) dX2_lamp_22 rfl rfl ?_
    refine aw_icmp_ne (tgt := 30) (q := 27) dX2_lamp_24 (by decide) rfl (fun hd => ?_) (fun hd => ?_)
    · first | refine aw_aload_n (i := 0) (q := 31) dX2_lamp_30 rfl rfl rfl ?_ | refine aw_aloadN_n (i := 0) (q := 31) dX2_lamp_30 rfl rfl rfl ?_ | refine aw_aloadQ_n (i := 0) (q := 31) dX2_lamp_30 rfl rfl rfl ?_
      refine aw_callV (q := 34) dX2_lamp_31 (C2_record hS) cv_X2_53_2 (by assumption) rfl rfl (by decide) (by decide) (by first | exact Nat.le_of_ble_eq_true rfl | simp [zcat_rf, Value.category]) rfl (fun v31 μ1 hp => ?_)
      obtain ⟨rfl, ⟨K', ⟨hT, hr⟩, e1, hf⟩, hk⟩ := hp
      have hT : zTP G μ1 m lam (setK K' 1 (K' 1)) P := by rw [setK_self]; exact hT
      have hm := hT.m
      have h1 := hT.a1
      have hlt := hle hd
      refine aw_bipush (v := 50) (q := 36) dX2_lamp_34 rfl rfl ?_
      refine aw_iconst (v := 4) (q := 37) dX2_lamp_36 rfl rfl ?_
      first | refine aw_aload_n (i := 0) (q := 38) dX2_lamp_37 rfl rfl rfl ?_ | refine aw_aloadN_n (i := 0) (q := 38) dX2_lamp_37 rfl rfl rfl ?_ | refine aw_aloadQ_n (i := 0) (q := 38) dX2_lamp_37 rfl rfl rfl ?_
      refine aw_getfield (q := 41) dX2_lamp_38 gf_X2_7_2 (by assumption) rfl rfl ?_
      refine aw_bipush (v := 8) (q := 43) dX2_lamp_41 rfl rfl ?_
      refine aw_iald (q := 44) (v := nI (pcn P 8)) (8) dX2_lamp_43 (by assumption) (by first | assumption | (simp only [← nI_add, ← pk_mul]; rfl) | rfl) (by omega) (by omega) ((hT.2.1.g (by omega)).trans hn) rfl ?_
      refine aw_imul (q := 45) dX2_lamp_44 rfl ?_
      refine aw_iadd (q := 46) dX2_lamp_45 rfl ?_
      refine aw_istore_n (i := 2) (q := 47) dX2_lamp_46 rfl (by decide) rfl ?_
      first | refine aw_aload_n (i := 0) (q := 48) dX2_lamp_47 rfl rfl rfl ?_ | refine aw_aloadN_n (i := 0) (q := 48) dX2_lamp_47 rfl rfl rfl ?_ | refine aw_aloadQ_n (i := 0) (q := 48) dX2_lamp_47 rfl rfl rfl ?_
      refine aw_getfield (q := 51) dX2_lamp_48 gf_X2_7_2 (by assumption) rfl rfl ?_
      refine aw_iload_n (i := 2) (q := 52) dX2_lamp_51 rfl rfl rfl ?_
      refine aw_iload_n (i := 1) (q := 53) dX2_lamp_52 rfl rfl rfl ?_
      refine aw_iast (q := 54) (50 + 4 * pcn P 8) dX2_lamp_53 h1 (by first | assumption | simp) (by first | assumption | (simp only [← nI_add, ← pk_mul]; rfl) | rfl) (by omega) (by omega) rfl (fun μt7 hg_μt7 => ?_)
      have h1 : μt7 _ = some _ := hg_μt7 ▸ updM_eq _ _ _
      obtain ⟨fμt7, hT, hk⟩ := hT.st' hk (s := 2) (i := pcn P 8) (c := 0) (by omega) (show pcn P 8 < 12 by omega) (show 0 < 4 by omega) (by first | (simp only [tB, tW]; done) | (simp only [tB, tW]; omega)) hg_μt7 (hT.2.2.upd (by omega))
      have hm := hT.m
      have h1 := hT.a1
      first | refine aw_aload_n (i := 0) (q := 55) dX2_lamp_54 rfl rfl rfl ?_ | refine aw_aloadN_n (i := 0) (q := 55) dX2_lamp_54 rfl rfl rfl ?_ | refine aw_aloadQ_n (i := 0) (q := 55) dX2_lamp_54 rfl rfl rfl ?_
      refine aw_getfield (q := 58) dX2_lamp_55 gf_X2_7_2 (by assumption) rfl rfl ?_
      refine aw_iload_n (i := 2) (q := 59) dX2_lamp_58 rfl rfl rfl ?_
      refine aw_iconst (v := 1) (q := 60) dX2_lamp_59 rfl rfl ?_
      refine aw_iadd (q := 61) dX2_lamp_60 rfl ?_
      refine aw_iconst (v := 0) (q := 62) dX2_lamp_61 rfl rfl ?_
      refine aw_iast (q := 63) (50 + 4 * pcn P 8 + 1) dX2_lamp_62 h1 (by first | assumption | simp) (by first | assumption | (simp only [← nI_add, ← pk_mul]; rfl) | rfl) (by omega) (by omega) rfl (fun μt8 hg_μt8 => ?_)
      have h1 : μt8 _ = some _ := hg_μt8 ▸ updM_eq _ _ _
      obtain ⟨fμt8, hT, hk⟩ := hT.st' hk (s := 2) (i := pcn P 8) (c := 1) (by omega) (show pcn P 8 < 12 by omega) (show 1 < 4 by omega) (by first | (simp only [tB, tW]; done) | (simp only [tB, tW]; omega)) hg_μt8 (hT.2.2.upd (by omega))
      have hm := hT.m
      have h1 := hT.a1
      first | refine aw_aload_n (i := 0) (q := 64) dX2_lamp_63 rfl rfl rfl ?_ | refine aw_aloadN_n (i := 0) (q := 64) dX2_lamp_63 rfl rfl rfl ?_ | refine aw_aloadQ_n (i := 0) (q := 64) dX2_lamp_63 rfl rfl rfl ?_
      refine aw_getfield (q := 67) dX2_lamp_64 gf_X2_7_2 (by assumption) rfl rfl ?_
      refine aw_iload_n (i := 2) (q := 68) dX2_lamp_67 rfl rfl rfl ?_
      refine aw_iconst (v := 2) (q := 69) dX2_lamp_68 rfl rfl ?_
      refine aw_iadd (q := 70) dX2_lamp_69 rfl ?_
      refine aw_iconst (v := 0) (q := 71) dX2_lamp_70 rfl rfl ?_
      refine aw_iast (q := 72) (50 + 4 * pcn P 8 + 2) dX2_lamp_71 h1 (by first | assumption | simp) (by first | assumption | (simp only [← nI_add, ← pk_mul]; rfl) | rfl) (by omega) (by omega) rfl (fun μt9 hg_μt9 => ?_)
      have h1 : μt9 _ = some _ := hg_μt9 ▸ updM_eq _ _ _
      obtain ⟨fμt9, hT, hk⟩ := hT.st' hk (s := 2) (i := pcn P 8) (c := 2) (by omega) (show pcn P 8 < 12 by omega) (show 2 < 4 by omega) (by first | (simp only [tB, tW]; done) | (simp only [tB, tW]; omega)) hg_μt9 (hT.2.2.upd (by omega))
      have hm := hT.m
      have h1 := hT.a1
      first | refine aw_aload_n (i := 0) (q := 73) dX2_lamp_72 rfl rfl rfl ?_ | refine aw_aloadN_n (i := 0) (q := 73) dX2_lamp_72 rfl rfl rfl ?_ | refine aw_aloadQ_n (i := 0) (q := 73) dX2_lamp_72 rfl rfl rfl ?_
      refine aw_getfield (q := 76) dX2_lamp_73 gf_X2_7_2 (by assumption) rfl rfl ?_
      refine aw_iload_n (i := 2) (q := 77) dX2_lamp_76 rfl rfl rfl ?_
      refine aw_iconst (v := 3) (q := 78) dX2_lamp_77 rfl rfl ?_
      refine aw_iadd (q := 79) dX2_lamp_78 rfl ?_
      refine aw_iconst (v := 0) (q := 80) dX2_lamp_79 rfl rfl ?_
      refine aw_iast (q := 81) (50 + 4 * pcn P 8 + 3) dX2_lamp_80 h1 (by first | assumption | simp) (by first | assumption | (simp only [← nI_add, ← pk_mul]; rfl) | rfl) (by omega) (by omega) rfl (fun μt10 hg_μt10 => ?_)
      have h1 : μt10 _ = some _ := hg_μt10 ▸ updM_eq _ _ _
      obtain ⟨fμt10, hT, hk⟩ := hT.st' hk (s := 2) (i := pcn P 8) (c := 3) (by omega) (show pcn P 8 < 12 by omega) (show 3 < 4 by omega) (by first | (simp only [tB, tW]; done) | (simp only [tB, tW]; omega)) hg_μt10 (hT.2.2.upd (by omega))
      have hm := hT.m
      have h1 := hT.a1
      first | refine aw_aload_n (i := 0) (q := 82) dX2_lamp_81 rfl rfl rfl ?_ | refine aw_aloadN_n (i := 0) (q := 82) dX2_lamp_81 rfl rfl rfl ?_ | refine aw_aloadQ_n (i := 0) (q := 82) dX2_lamp_81 rfl rfl rfl ?_
      refine aw_getfield (q := 85) dX2_lamp_82 gf_X2_7_2 (by assumption) rfl rfl ?_
      refine aw_bipush (v := 8) (q := 87) dX2_lamp_85 rfl rfl ?_
      refine aw_dup2 (q := 88) dX2_lamp_87 (by first | rfl | exact zcat_rf _) (by first | rfl | exact zcat_rf _) rfl ?_
      refine aw_iald (q := 89) (v := nI (pcn P 8)) (8) dX2_lamp_88 (by assumption) (by first | assumption | (simp only [← nI_add, ← pk_mul]; rfl) | rfl) (by omega) (by omega) ((hT.2.1.g (by omega)).trans (by (repeat rw [updP_ne (by omega)]); exact hn)) rfl ?_
      refine aw_iconst (v := 1) (q := 90) dX2_lamp_89 rfl rfl ?_
      refine aw_iadd (q := 91) dX2_lamp_90 rfl ?_
      refine aw_iast (q := 92) (8) dX2_lamp_91 h1 (by first | assumption | simp) (by first | assumption | (simp only [← nI_add, ← pk_mul]; rfl) | rfl) (by omega) (by omega) rfl (fun μt11 hg_μt11 => ?_)
      have h1 : μt11 _ = some _ := hg_μt11 ▸ updM_eq _ _ _
      obtain ⟨fμt11, hT, hk⟩ := hT.st' hk (s := 0) (i := 0) (c := 8) (by omega) (show 0 < 1 by omega) (show 8 < 20 by omega) (by first | (simp only [tB, tW]; done) | (simp only [tB, tW]; omega)) hg_μt11 (by rw [nI_1]; exact hT.2.2.cnt (by omega) (by omega) (show _ ≤ 12 by omega))
      have hm := hT.m
      have h1 := hT.a1
      first | refine aw_aload_n (i := 0) (q := 93) dX2_lamp_92 rfl rfl rfl ?_ | refine aw_aloadN_n (i := 0) (q := 93) dX2_lamp_92 rfl rfl rfl ?_ | refine aw_aloadQ_n (i := 0) (q := 93) dX2_lamp_92 rfl rfl rfl ?_
      refine aw_getfield (q := 96) dX2_lamp_93 gf_X2_7_2 (by assumption) rfl rfl ?_
      refine aw_bipush (v := 8) (q := 98) dX2_lamp_96 rfl rfl ?_
      refine aw_iald (q := 99) (v := nI (pcn P 8 + 1)) (8) dX2_lamp_98 (by assumption) (by first | assumption | (simp only [← nI_add, ← pk_mul]; rfl) | rfl) (by omega) (by omega) ((hT.2.1.g (by omega)).trans (by rw [updP_eq]; exact nI_1 _)) rfl ?_
      refine aw_iconst (v := 1) (q := 100) dX2_lamp_99 rfl rfl ?_
      refine aw_isub (q := 101) dX2_lamp_100 rfl ?_
      rw [nI_pred]
      exact aw_ireturn dX2_lamp_101 rfl (by first | rfl | exact zB_nar _) (tPub.of hT (hr.congr (fun _ _ => rfl) rfl rfl rfl rfl) (hf.tr ⟨rfl, fun _ _ => rfl⟩) hk (by rw [tLampC, if_pos (zB_1 ha), if_neg hd, nI_1]))
    · refine aw_bipush (v := (-4)) (q := 29) dX2_lamp_27 rfl rfl ?_
      exact aw_ireturn dX2_lamp_29 rfl (by first | rfl | exact zB_nar _) (tPub.same hS (by rw [tLampC, if_pos (zB_1 ha), if_pos hd]))
  · refine aw_bipush (v := (-2)) (q := 14) dX2_lamp_12 rfl rfl ?_
    exact aw_ireturn dX2_lamp_14 rfl (by first | rfl | exact zB_nar _) (tPub.same hS (if_neg (zB_0 ha)))
theorem C2_fit {l : Int32} (hS : zTS G μ m lam K P R) : Meets G 3 MX2_fit [.ref m, .int l] μ (tPub G μ m lam K (tFitC P R l)) 0 0 := by
  have hm := hS.1.m
  have h1 := hS.1.a1
  obtain ⟨hn, hN⟩ := hS.1.2.2.l
  refine meets_of (by decide +kernel) (Nat.le_of_ble_eq_true rfl) ?_
  first | refine aw_aload_n (i := 0) (q := 1) dX2_fit_0 rfl rfl rfl ?_ | refine aw_aloadN_n (i := 0) (q := 1) dX2_fit_0 rfl rfl rfl ?_ | refine aw_aloadQ_n (i := 0) (q := 1) dX2_fit_0 rfl rfl rfl ?_
  refine aw_iload_n (i := 1) (q := 2) dX2_fit_1 rfl rfl rfl ?_
  refine aw_callV (q := 5) dX2_fit_2 (C2_isLamp hS.1) cv_X2_68_2 (by assumption) rfl rfl (by decide) (by decide) (by first | exact Nat.le_of_ble_eq_true rfl | simp [zcat_rf, Value.category]) rfl (zpk ?_)
  refine aw_if_ne (tgt := 10) (q := 8) dX2_fit_5 (by decide) rfl (fun ha => ?_) (fun ha => ?_)
  · skip
    obtain ⟨j, hj, hx⟩ := tIx hn (by omega) (zB_1 ha)
    have e8 : tFitC P R l = if P 2 j 2 = 0 then (tPutIn P j, tRec P R, tFit P) else (P, R, -5) := by rw [tFitC, if_pos (zB_1 ha), hx, nI_clamp (by omega)]
    subst hx
    first | refine aw_aload_n (i := 0) (q := 11) dX2_fit_10 rfl rfl rfl ?_ | refine aw_aloadN_n (i := 0) (q := 11) dX2_fit_10 rfl rfl rfl ?_ | refine aw_aloadQ_n (i := 0) (q := 11) dX2_fit_10 rfl rfl rfl ?_
    refine aw_getfield (q := 14) dX2_fit_11 gf_X2_7_2 (by assumption) rfl rfl ?_
    refine aw_bipush (v := 50) (q := 16) dX2_fit_14 rfl rfl ?_
    refine aw_iconst (v := 4) (q := 17) dX2_fit_16 rfl rfl ?_
    refine aw_iload_n (i := 1) (q := 18) dX2_fit_17 rfl rfl rfl ?_
    refine aw_imul (q := 19) dX2_fit_18 rfl ?_
    refine aw_iadd (q := 20) dX2_fit_19 rfl ?_
    refine aw_iconst (v := 2) (q := 21) dX2_fit_20 rfl rfl ?_
    refine aw_iadd (q := 22) dX2_fit_21 rfl ?_
    refine aw_iald (q := 23) (v := P 2 j 2) (50 + 4 * j + 2) dX2_fit_22 (by assumption) (by first | assumption | (simp only [← nI_add, ← pk_mul]; rfl) | rfl) (by omega) (by omega) (hS.1.2.1.la (by omega) (by omega)) rfl ?_
    refine aw_if_eq (tgt := 29) (q := 26) dX2_fit_23 (by decide) rfl (fun hb => ?_) (fun hb => ?_)
    · first | refine aw_aload_n (i := 0) (q := 30) dX2_fit_29 rfl rfl rfl ?_ | refine aw_aloadN_n (i := 0) (q := 30) dX2_fit_29 rfl rfl rfl ?_ | refine aw_aloadQ_n (i := 0) (q := 30) dX2_fit_29 rfl rfl rfl ?_
      refine aw_callV (q := 33) dX2_fit_30 (C2_record hS) cv_X2_53_2 (by assumption) rfl rfl (by decide) (by decide) (by first | exact Nat.le_of_ble_eq_true rfl | simp [zcat_rf, Value.category]) rfl (fun v30 μ1 hp => ?_)
      obtain ⟨rfl, ⟨K', ⟨hT, hr⟩, e1, hf⟩, hk⟩ := hp
      have hm := hT.m
      first | refine aw_aload_n (i := 0) (q := 34) dX2_fit_33 rfl rfl rfl ?_ | refine aw_aloadN_n (i := 0) (q := 34) dX2_fit_33 rfl rfl rfl ?_ | refine aw_aloadQ_n (i := 0) (q := 34) dX2_fit_33 rfl rfl rfl ?_
      refine aw_iload_n (i := 1) (q := 35) dX2_fit_34 rfl rfl rfl ?_
      refine aw_callV (q := 38) dX2_fit_35 (C2_putIn hT rfl (by omega)) cv_X2_71_2 (by assumption) rfl rfl (by decide) (by decide) (by first | exact Nat.le_of_ble_eq_true rfl | simp [zcat_rf, Value.category]) rfl (fun v35 μ2 hp => ?_)
      obtain ⟨rfl, ⟨f2, hT2⟩, hk2⟩ := hp
      exact aw_ireturn dX2_fit_38 rfl (by first | rfl | exact zB_nar _) (tPub.of hT2 (hr.congr (fun _ _ => rfl) rfl rfl rfl rfl) (hf.tr ⟨rfl, fun _ _ => rfl⟩) (hk.tr hk2) (by rw [e8, if_pos hb]))
    · refine aw_bipush (v := (-5)) (q := 28) dX2_fit_26 rfl rfl ?_
      exact aw_ireturn dX2_fit_28 rfl (by first | rfl | exact zB_nar _) (tPub.same hS (by rw [e8, if_neg hb]))
  · refine aw_iconst (v := (-1)) (q := 9) dX2_fit_8 rfl rfl ?_
    exact aw_ireturn dX2_fit_9 rfl (by first | rfl | exact zB_nar _) (tPub.same hS (if_neg (zB_0 ha)))
theorem C2_plan {d s k : Int32} (hS : zTS G μ m lam K P R) : Meets G 4 MX2_plan [.ref m, .int d, .int s, .int k] μ (tPub G μ m lam K (tPlanC P R d s k)) 0 0 := by
  have hm := hS.1.m
  have h1 := hS.1.a1
  obtain ⟨hn, hN⟩ := hS.1.2.2.s
  have hle : P 0 0 9 ≠ 60 → pcn P 9 < 60 := fun h => by
    have : pcn P 9 ≠ 60 := fun e => h (by rw [hn, e]; rfl)
    omega
  refine meets_of (by decide +kernel) (Nat.le_of_ble_eq_true rfl) ?_
  refine aw_iload_n (i := 1) (q := 1) dX2_plan_0 rfl rfl rfl ?_
  first | refine aw_aload_n (i := 0) (q := 2) dX2_plan_1 rfl rfl rfl ?_ | refine aw_aloadN_n (i := 0) (q := 2) dX2_plan_1 rfl rfl rfl ?_ | refine aw_aloadQ_n (i := 0) (q := 2) dX2_plan_1 rfl rfl rfl ?_
  refine aw_getfield (q := 5) dX2_plan_2 gf_X2_7_2 (by assumption) rfl rfl ?_
  refine aw_bipush (v := 6) (q := 7) dX2_plan_5 rfl rfl ?_
  refine aw_iald (q := 8) (v := P 0 0 6) (6) dX2_plan_7 (by assumption) (by first | assumption | (simp only [← nI_add, ← pk_mul]; rfl) | rfl) (by omega) (by omega) (hS.1.2.1.g (by omega)) rfl ?_
  first | refine aw_aload_n (i := 0) (q := 9) dX2_plan_8 rfl rfl rfl ?_ | refine aw_aloadN_n (i := 0) (q := 9) dX2_plan_8 rfl rfl rfl ?_ | refine aw_aloadQ_n (i := 0) (q := 9) dX2_plan_8 rfl rfl rfl ?_
  refine aw_getfield (q := 12) dX2_plan_9 gf_X2_7_2 (by assumption) rfl rfl ?_
  refine aw_bipush (v := 6) (q := 14) dX2_plan_12 rfl rfl ?_
  refine aw_iald (q := 15) (v := P 0 0 6) (6) dX2_plan_14 (by assumption) (by first | assumption | (simp only [← nI_add, ← pk_mul]; rfl) | rfl) (by omega) (by omega) (hS.1.2.1.g (by omega)) rfl ?_
  refine aw_bipush (v := 60) (q := 17) dX2_plan_15 rfl rfl ?_
  refine aw_iadd (q := 18) dX2_plan_17 rfl ?_
  refine aw_callS (q := 21) dX2_plan_18 (C2_in) cs_X2_49 rfl rfl (by decide) (by decide) (by first | exact Nat.le_of_ble_eq_true rfl | simp [zcat_rf, Value.category]) rfl (zpk ?_)
  refine aw_if_eq (tgt := 33) (q := 24) dX2_plan_21 (by decide) rfl (fun ha => ?_) (fun ha => ?_)
  · refine aw_bipush (v := (-2)) (q := 35) dX2_plan_33 rfl rfl ?_
    exact aw_ireturn dX2_plan_35 rfl (by first | rfl | exact zB_nar _) (tPub.same hS (if_neg (fun h => zB_0 ha h.1)))
  · refine aw_iload_n (i := 2) (q := 25) dX2_plan_24 rfl rfl rfl ?_
    refine aw_iconst (v := 0) (q := 26) dX2_plan_25 rfl rfl ?_
    refine aw_iconst (v := 5) (q := 27) dX2_plan_26 rfl rfl ?_
    refine aw_callS (q := 30) dX2_plan_27 (C2_in) cs_X2_49 rfl rfl (by decide) (by decide) (by first | exact Nat.le_of_ble_eq_true rfl | simp [zcat_rf, Value.category]) rfl (zpk ?_)
    refine aw_if_ne (tgt := 36) (q := 33) dX2_plan_30 (by decide) rfl (fun hb => ?_) (fun hb => ?_)
    · first | refine aw_aload_n (i := 0) (q := 37) dX2_plan_36 rfl rfl rfl ?_ | refine aw_aloadN_n (i := 0) (q := 37) dX2_plan_36 rfl rfl rfl ?_ | refine aw_aloadQ_n (i := 0) (q := 37) dX2_plan_36 rfl rfl rfl ?_
      refine aw_iload_n (i := 3) (q := 38) dX2_plan_37 rfl rfl rfl ?_
      have good := And.intro (zB_1 ha) (zB_1 hb)
      refine aw_callV (q := 41) dX2_plan_38 (C2_isKind hS.1) cv_X2_56_2 (by assumption) rfl rfl (by decide) (by decide) (by first | exact Nat.le_of_ble_eq_true rfl | simp [zcat_rf, Value.category]) rfl (zpk ?_)
      refine aw_if_ne (tgt := 46) (q := 44) dX2_plan_41 (by decide) rfl (fun hc => ?_) (fun hc => ?_)
      · first | refine aw_aload_n (i := 0) (q := 47) dX2_plan_46 rfl rfl rfl ?_ | refine aw_aloadN_n (i := 0) (q := 47) dX2_plan_46 rfl rfl rfl ?_ | refine aw_aloadQ_n (i := 0) (q := 47) dX2_plan_46 rfl rfl rfl ?_
        refine aw_getfield (q := 50) dX2_plan_47 gf_X2_7_2 (by assumption) rfl rfl ?_
        refine aw_bipush (v := 9) (q := 52) dX2_plan_50 rfl rfl ?_
        refine aw_iald (q := 53) (v := P 0 0 9) (9) dX2_plan_52 (by assumption) (by first | assumption | (simp only [← nI_add, ← pk_mul]; rfl) | rfl) (by omega) (by omega) (hS.1.2.1.g (by omega)) rfl ?_
        refine aw_bipush (v := 60) (q := 55) dX2_plan_53 rfl rfl ?_
        refine aw_icmp_ne (tgt := 61) (q := 58) dX2_plan_55 (by decide) rfl (fun hd => ?_) (fun hd => ?_)
        · first | refine aw_aload_n (i := 0) (q := 62) dX2_plan_61 rfl rfl rfl ?_ | refine aw_aloadN_n (i := 0) (q := 62) dX2_plan_61 rfl rfl rfl ?_ | refine aw_aloadQ_n (i := 0) (q := 62) dX2_plan_61 rfl rfl rfl ?_
          refine aw_iload_n (i := 1) (q := 63) dX2_plan_62 rfl rfl rfl ?_
          refine aw_iload_n (i := 2) (q := 64) dX2_plan_63 rfl rfl rfl ?_
          refine aw_callV (q := 67) dX2_plan_64 (C2_isFree hS.1) cv_X2_84_2 (by assumption) rfl rfl (by decide) (by decide) (by first | exact Nat.le_of_ble_eq_true rfl | simp [zcat_rf, Value.category]) rfl (zpk ?_)
          refine aw_if_ne (tgt := 73) (q := 70) dX2_plan_67 (by decide) rfl (fun he => ?_) (fun he => ?_)
          · first | refine aw_aload_n (i := 0) (q := 74) dX2_plan_73 rfl rfl rfl ?_ | refine aw_aloadN_n (i := 0) (q := 74) dX2_plan_73 rfl rfl rfl ?_ | refine aw_aloadQ_n (i := 0) (q := 74) dX2_plan_73 rfl rfl rfl ?_
            refine aw_callV (q := 77) dX2_plan_74 (C2_record hS) cv_X2_53_2 (by assumption) rfl rfl (by decide) (by decide) (by first | exact Nat.le_of_ble_eq_true rfl | simp [zcat_rf, Value.category]) rfl (fun v74 μ1 hp => ?_)
            obtain ⟨rfl, ⟨K', ⟨hT, hr⟩, e1, hf⟩, hk⟩ := hp
            have hT : zTP G μ1 m lam (setK K' 1 (K' 1)) P := by rw [setK_self]; exact hT
            have hm := hT.m
            have h1 := hT.a1
            have hlt := hle hd
            refine aw_bipush (v := 100) (q := 79) dX2_plan_77 rfl rfl ?_
            refine aw_bipush (v := 7) (q := 81) dX2_plan_79 rfl rfl ?_
            first | refine aw_aload_n (i := 0) (q := 82) dX2_plan_81 rfl rfl rfl ?_ | refine aw_aloadN_n (i := 0) (q := 82) dX2_plan_81 rfl rfl rfl ?_ | refine aw_aloadQ_n (i := 0) (q := 82) dX2_plan_81 rfl rfl rfl ?_
            refine aw_getfield (q := 85) dX2_plan_82 gf_X2_7_2 (by assumption) rfl rfl ?_
            refine aw_bipush (v := 9) (q := 87) dX2_plan_85 rfl rfl ?_
            refine aw_iald (q := 88) (v := nI (pcn P 9)) (9) dX2_plan_87 (by assumption) (by first | assumption | (simp only [← nI_add, ← pk_mul]; rfl) | rfl) (by omega) (by omega) ((hT.2.1.g (by omega)).trans hn) rfl ?_
            refine aw_imul (q := 89) dX2_plan_88 rfl ?_
            refine aw_iadd (q := 90) dX2_plan_89 rfl ?_
            refine aw_istore (q := 92) dX2_plan_90 (by decide) rfl ?_
            first | refine aw_aload_n (i := 0) (q := 93) dX2_plan_92 rfl rfl rfl ?_ | refine aw_aloadN_n (i := 0) (q := 93) dX2_plan_92 rfl rfl rfl ?_ | refine aw_aloadQ_n (i := 0) (q := 93) dX2_plan_92 rfl rfl rfl ?_
            refine aw_getfield (q := 96) dX2_plan_93 gf_X2_7_2 (by assumption) rfl rfl ?_
            refine aw_iload (q := 98) dX2_plan_96 rfl rfl ?_
            refine aw_iload_n (i := 3) (q := 99) dX2_plan_98 rfl rfl rfl ?_
            refine aw_iast (q := 100) (100 + 7 * pcn P 9) dX2_plan_99 h1 (by first | assumption | simp) (by first | assumption | (simp only [← nI_add, ← pk_mul]; rfl) | rfl) (by omega) (by omega) rfl (fun μt12 hg_μt12 => ?_)
            have h1 : μt12 _ = some _ := hg_μt12 ▸ updM_eq _ _ _
            obtain ⟨fμt12, hT, hk⟩ := hT.st' hk (s := 3) (i := pcn P 9) (c := 0) (by omega) (show pcn P 9 < 60 by omega) (show 0 < 7 by omega) (by first | (simp only [tB, tW]; done) | (simp only [tB, tW]; omega)) hg_μt12 (hT.2.2.upd (by omega))
            have hm := hT.m
            have h1 := hT.a1
            first | refine aw_aload_n (i := 0) (q := 101) dX2_plan_100 rfl rfl rfl ?_ | refine aw_aloadN_n (i := 0) (q := 101) dX2_plan_100 rfl rfl rfl ?_ | refine aw_aloadQ_n (i := 0) (q := 101) dX2_plan_100 rfl rfl rfl ?_
            refine aw_getfield (q := 104) dX2_plan_101 gf_X2_7_2 (by assumption) rfl rfl ?_
            refine aw_iload (q := 106) dX2_plan_104 rfl rfl ?_
            refine aw_iconst (v := 1) (q := 107) dX2_plan_106 rfl rfl ?_
            refine aw_iadd (q := 108) dX2_plan_107 rfl ?_
            refine aw_iload_n (i := 1) (q := 109) dX2_plan_108 rfl rfl rfl ?_
            refine aw_iast (q := 110) (100 + 7 * pcn P 9 + 1) dX2_plan_109 h1 (by first | assumption | simp) (by first | assumption | (simp only [← nI_add, ← pk_mul]; rfl) | rfl) (by omega) (by omega) rfl (fun μt13 hg_μt13 => ?_)
            have h1 : μt13 _ = some _ := hg_μt13 ▸ updM_eq _ _ _
            obtain ⟨fμt13, hT, hk⟩ := hT.st' hk (s := 3) (i := pcn P 9) (c := 1) (by omega) (show pcn P 9 < 60 by omega) (show 1 < 7 by omega) (by first | (simp only [tB, tW]; done) | (simp only [tB, tW]; omega)) hg_μt13 (hT.2.2.upd (by omega))
            have hm := hT.m
            have h1 := hT.a1
            first | refine aw_aload_n (i := 0) (q := 111) dX2_plan_110 rfl rfl rfl ?_ | refine aw_aloadN_n (i := 0) (q := 111) dX2_plan_110 rfl rfl rfl ?_ | refine aw_aloadQ_n (i := 0) (q := 111) dX2_plan_110 rfl rfl rfl ?_
            refine aw_getfield (q := 114) dX2_plan_111 gf_X2_7_2 (by assumption) rfl rfl ?_
            refine aw_iload (q := 116) dX2_plan_114 rfl rfl ?_
            refine aw_iconst (v := 2) (q := 117) dX2_plan_116 rfl rfl ?_
            refine aw_iadd (q := 118) dX2_plan_117 rfl ?_
            refine aw_iload_n (i := 2) (q := 119) dX2_plan_118 rfl rfl rfl ?_
            refine aw_iast (q := 120) (100 + 7 * pcn P 9 + 2) dX2_plan_119 h1 (by first | assumption | simp) (by first | assumption | (simp only [← nI_add, ← pk_mul]; rfl) | rfl) (by omega) (by omega) rfl (fun μt14 hg_μt14 => ?_)
            have h1 : μt14 _ = some _ := hg_μt14 ▸ updM_eq _ _ _
            obtain ⟨fμt14, hT, hk⟩ := hT.st' hk (s := 3) (i := pcn P 9) (c := 2) (by omega) (show pcn P 9 < 60 by omega) (show 2 < 7 by omega) (by first | (simp only [tB, tW]; done) | (simp only [tB, tW]; omega)) hg_μt14 (hT.2.2.upd (by omega))
            have hm := hT.m
            have h1 := hT.a1
            first | refine aw_aload_n (i := 0) (q := 121) dX2_plan_120 rfl rfl rfl ?_ | refine aw_aloadN_n (i := 0) (q := 121) dX2_plan_120 rfl rfl rfl ?_ | refine aw_aloadQ_n (i := 0) (q := 121) dX2_plan_120 rfl rfl rfl ?_
            refine aw_getfield (q := 124) dX2_plan_121 gf_X2_7_2 (by assumption) rfl rfl ?_
            refine aw_iload (q := 126) dX2_plan_124 rfl rfl ?_
            refine aw_iconst (v := 3) (q := 127) dX2_plan_126 rfl rfl ?_
            refine aw_iadd (q := 128) dX2_plan_127 rfl ?_
            refine aw_iconst (v := 0) (q := 129) dX2_plan_128 rfl rfl ?_
            refine aw_iast (q := 130) (100 + 7 * pcn P 9 + 3) dX2_plan_129 h1 (by first | assumption | simp) (by first | assumption | (simp only [← nI_add, ← pk_mul]; rfl) | rfl) (by omega) (by omega) rfl (fun μt15 hg_μt15 => ?_)
            have h1 : μt15 _ = some _ := hg_μt15 ▸ updM_eq _ _ _
            obtain ⟨fμt15, hT, hk⟩ := hT.st' hk (s := 3) (i := pcn P 9) (c := 3) (by omega) (show pcn P 9 < 60 by omega) (show 3 < 7 by omega) (by first | (simp only [tB, tW]; done) | (simp only [tB, tW]; omega)) hg_μt15 (hT.2.2.upd (by omega))
            have hm := hT.m
            have h1 := hT.a1
            first | refine aw_aload_n (i := 0) (q := 131) dX2_plan_130 rfl rfl rfl ?_ | refine aw_aloadN_n (i := 0) (q := 131) dX2_plan_130 rfl rfl rfl ?_ | refine aw_aloadQ_n (i := 0) (q := 131) dX2_plan_130 rfl rfl rfl ?_
            refine aw_getfield (q := 134) dX2_plan_131 gf_X2_7_2 (by assumption) rfl rfl ?_
            refine aw_iload (q := 136) dX2_plan_134 rfl rfl ?_
            refine aw_iconst (v := 4) (q := 137) dX2_plan_136 rfl rfl ?_
            refine aw_iadd (q := 138) dX2_plan_137 rfl ?_
            refine aw_bipush (v := (-6)) (q := 140) dX2_plan_138 rfl rfl ?_
            refine aw_iast (q := 141) (100 + 7 * pcn P 9 + 4) dX2_plan_140 h1 (by first | assumption | simp) (by first | assumption | (simp only [← nI_add, ← pk_mul]; rfl) | rfl) (by omega) (by omega) rfl (fun μt16 hg_μt16 => ?_)
            have h1 : μt16 _ = some _ := hg_μt16 ▸ updM_eq _ _ _
            obtain ⟨fμt16, hT, hk⟩ := hT.st' hk (s := 3) (i := pcn P 9) (c := 4) (by omega) (show pcn P 9 < 60 by omega) (show 4 < 7 by omega) (by first | (simp only [tB, tW]; done) | (simp only [tB, tW]; omega)) hg_μt16 (hT.2.2.upd (by omega))
            have hm := hT.m
            have h1 := hT.a1
            first | refine aw_aload_n (i := 0) (q := 142) dX2_plan_141 rfl rfl rfl ?_ | refine aw_aloadN_n (i := 0) (q := 142) dX2_plan_141 rfl rfl rfl ?_ | refine aw_aloadQ_n (i := 0) (q := 142) dX2_plan_141 rfl rfl rfl ?_
            refine aw_getfield (q := 145) dX2_plan_142 gf_X2_7_2 (by assumption) rfl rfl ?_
            refine aw_iload (q := 147) dX2_plan_145 rfl rfl ?_
            refine aw_iconst (v := 5) (q := 148) dX2_plan_147 rfl rfl ?_
            refine aw_iadd (q := 149) dX2_plan_148 rfl ?_
            refine aw_iconst (v := 0) (q := 150) dX2_plan_149 rfl rfl ?_
            refine aw_iast (q := 151) (100 + 7 * pcn P 9 + 5) dX2_plan_150 h1 (by first | assumption | simp) (by first | assumption | (simp only [← nI_add, ← pk_mul]; rfl) | rfl) (by omega) (by omega) rfl (fun μt17 hg_μt17 => ?_)
            have h1 : μt17 _ = some _ := hg_μt17 ▸ updM_eq _ _ _
            obtain ⟨fμt17, hT, hk⟩ := hT.st' hk (s := 3) (i := pcn P 9) (c := 5) (by omega) (show pcn P 9 < 60 by omega) (show 5 < 7 by omega) (by first | (simp only [tB, tW]; done) | (simp only [tB, tW]; omega)) hg_μt17 (hT.2.2.upd (by omega))
            have hm := hT.m
            have h1 := hT.a1
            first | refine aw_aload_n (i := 0) (q := 152) dX2_plan_151 rfl rfl rfl ?_ | refine aw_aloadN_n (i := 0) (q := 152) dX2_plan_151 rfl rfl rfl ?_ | refine aw_aloadQ_n (i := 0) (q := 152) dX2_plan_151 rfl rfl rfl ?_
            refine aw_getfield (q := 155) dX2_plan_152 gf_X2_7_2 (by assumption) rfl rfl ?_
            refine aw_iload (q := 157) dX2_plan_155 rfl rfl ?_
            refine aw_bipush (v := 6) (q := 159) dX2_plan_157 rfl rfl ?_
            refine aw_iadd (q := 160) dX2_plan_159 rfl ?_
            refine aw_iconst (v := 0) (q := 161) dX2_plan_160 rfl rfl ?_
            refine aw_iast (q := 162) (100 + 7 * pcn P 9 + 6) dX2_plan_161 h1 (by first | assumption | simp) (by first | assumption | (simp only [← nI_add, ← pk_mul]; rfl) | rfl) (by omega) (by omega) rfl (fun μt18 hg_μt18 => ?_)
            have h1 : μt18 _ = some _ := hg_μt18 ▸ updM_eq _ _ _
            obtain ⟨fμt18, hT, hk⟩ := hT.st' hk (s := 3) (i := pcn P 9) (c := 6) (by omega) (show pcn P 9 < 60 by omega) (show 6 < 7 by omega) (by first | (simp only [tB, tW]; done) | (simp only [tB, tW]; omega)) hg_μt18 (hT.2.2.upd (by omega))
            have hm := hT.m
            have h1 := hT.a1
            first | refine aw_aload_n (i := 0) (q := 163) dX2_plan_162 rfl rfl rfl ?_ | refine aw_aloadN_n (i := 0) (q := 163) dX2_plan_162 rfl rfl rfl ?_ | refine aw_aloadQ_n (i := 0) (q := 163) dX2_plan_162 rfl rfl rfl ?_
            refine aw_getfield (q := 166) dX2_plan_163 gf_X2_7_2 (by assumption) rfl rfl ?_
            refine aw_bipush (v := 9) (q := 168) dX2_plan_166 rfl rfl ?_
            refine aw_dup2 (q := 169) dX2_plan_168 (by first | rfl | exact zcat_rf _) (by first | rfl | exact zcat_rf _) rfl ?_
            refine aw_iald (q := 170) (v := nI (pcn P 9)) (9) dX2_plan_169 (by assumption) (by first | assumption | (simp only [← nI_add, ← pk_mul]; rfl) | rfl) (by omega) (by omega) ((hT.2.1.g (by omega)).trans (by (repeat rw [updP_ne (by omega)]); exact hn)) rfl ?_
            refine aw_iconst (v := 1) (q := 171) dX2_plan_170 rfl rfl ?_
            refine aw_iadd (q := 172) dX2_plan_171 rfl ?_
            refine aw_iast (q := 173) (9) dX2_plan_172 h1 (by first | assumption | simp) (by first | assumption | (simp only [← nI_add, ← pk_mul]; rfl) | rfl) (by omega) (by omega) rfl (fun μt19 hg_μt19 => ?_)
            have h1 : μt19 _ = some _ := hg_μt19 ▸ updM_eq _ _ _
            obtain ⟨fμt19, hT, hk⟩ := hT.st' hk (s := 0) (i := 0) (c := 9) (by omega) (show 0 < 1 by omega) (show 9 < 20 by omega) (by first | (simp only [tB, tW]; done) | (simp only [tB, tW]; omega)) hg_μt19 (by rw [nI_1]; exact hT.2.2.cnt (by omega) (by omega) (show _ ≤ 60 by omega))
            have hm := hT.m
            have h1 := hT.a1
            first | refine aw_aload_n (i := 0) (q := 174) dX2_plan_173 rfl rfl rfl ?_ | refine aw_aloadN_n (i := 0) (q := 174) dX2_plan_173 rfl rfl rfl ?_ | refine aw_aloadQ_n (i := 0) (q := 174) dX2_plan_173 rfl rfl rfl ?_
            refine aw_getfield (q := 177) dX2_plan_174 gf_X2_7_2 (by assumption) rfl rfl ?_
            refine aw_bipush (v := 9) (q := 179) dX2_plan_177 rfl rfl ?_
            refine aw_iald (q := 180) (v := nI (pcn P 9 + 1)) (9) dX2_plan_179 (by assumption) (by first | assumption | (simp only [← nI_add, ← pk_mul]; rfl) | rfl) (by omega) (by omega) ((hT.2.1.g (by omega)).trans (by rw [updP_eq]; exact nI_1 _)) rfl ?_
            refine aw_iconst (v := 1) (q := 181) dX2_plan_180 rfl rfl ?_
            refine aw_isub (q := 182) dX2_plan_181 rfl ?_
            rw [nI_pred]
            exact aw_ireturn dX2_plan_182 rfl (by first | rfl | exact zB_nar _) (tPub.of hT (hr.congr (fun _ _ => rfl) rfl rfl rfl rfl) (hf.tr ⟨rfl, fun _ _ => rfl⟩) hk (by rw [tPlanC, if_pos good, if_pos (zB_1 hc), if_neg hd, if_pos (zB_1 he), nI_1]; rfl))
          · refine aw_bipush (v := (-5)) (q := 72) dX2_plan_70 rfl rfl ?_
            exact aw_ireturn dX2_plan_72 rfl (by first | rfl | exact zB_nar _) (tPub.same hS (by rw [tPlanC, if_pos good, if_pos (zB_1 hc), if_neg hd, if_neg (zB_0 he)]))
        · refine aw_bipush (v := (-4)) (q := 60) dX2_plan_58 rfl rfl ?_
          exact aw_ireturn dX2_plan_60 rfl (by first | rfl | exact zB_nar _) (tPub.same hS (by rw [tPlanC, if_pos good, if_pos (zB_1 hc), if_pos hd]))
      · refine aw_iconst (v := (-1)) (q := 45) dX2_plan_44 rfl rfl ?_
        exact aw_ireturn dX2_plan_45 rfl (by first | rfl | exact zB_nar _) (tPub.same hS (by rw [tPlanC, if_pos good, if_neg (zB_0 hc)]))
    · refine aw_bipush (v := (-2)) (q := 35) dX2_plan_33 rfl rfl ?_
      exact aw_ireturn dX2_plan_35 rfl (by first | rfl | exact zB_nar _) (tPub.same hS (if_neg (fun h => zB_0 hb h.2)))
end ZTW15
