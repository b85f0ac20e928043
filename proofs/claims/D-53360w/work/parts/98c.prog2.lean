/-! THE PROGRAMME: promises' counts, bookings that are lost -/
set_option maxRecDepth 100000
section ZPC
variable {G : zG} {μ : zM} {p o : Nat} {P : zP} {A : Nat → Nat → Nat} {c : Nat → Int32}
/-- the programme's own cells, not its maps -/
abbrev zKo (o : Nat) : Nat → zT → Prop := fun _ u => u.2 = o ∧ 20000 ≤ u.1
theorem zKo.ob {s i o a : Nat} : zKo o a (obT s i o) := ⟨rfl, by show 20000 ≤ 30000 + 1000 * s + 2 * i; omega⟩
theorem zKo.oa {s i o a : Nat} : zKo o a (oaT s i o) := ⟨rfl, by show 20000 ≤ 30001 + 1000 * s + 2 * i; omega⟩
theorem obT_nz {s i : Nat} : obT s i o ≠ zC := fun e => by have e1 : 30000 + 1000 * s + 2 * i = 0 := congrArg Prod.fst e; omega
theorem oaT_nz {s i : Nat} : oaT s i o ≠ zC := fun e => by have e1 : 30001 + 1000 * s + 2 * i = 0 := congrArg Prod.fst e; omega
/-- an iterator steps on -/
theorem zPR.ti {μ' : zM} {it : Nat} {e e' : va_E} (h : zPR G μ p o P A c) (hi : μ it = some (zTI, e)) (hμ : μ' = updM μ it (zTI, e')) : zPR G μ' p o P A c := by
  refine h.kp (T := fun _ u => u = zTI) (hμ ▸ zKp.put hi rfl) (fun _ u q e => ?_)
  subst e
  rcases q with q | ⟨-, q⟩
  · have e1 : (3 : Nat) = 0 := congrArg Prod.snd q
    omega
  · have q : 20000 ≤ 0 := q
    omega
theorem updP_id {s i j : Nat} : updP P s i j (P s i j) = P := by
  funext s' i' j'
  by_cases e : s' = s ∧ i' = i ∧ j' = j
  · obtain ⟨rfl, rfl, rfl⟩ := e; exact updP_eq _ _ _ _ _
  · exact updP_ne e
/-- a promise's count changes -/
theorem zPR.pcount {μ' : zM} {k w r : Nat} {f : Nat → Int32} {v : Int32} (h : zPR G μ p o P A c) (hO : tOk P) (hk : k < pcn P 12) (hw : w < 5) (hob : μ (A 6 k) = some (obT 6 k o, oPr (P 6 k 0) (P 6 k 1) (P 6 k 2) (P 6 k 3) (P 6 k 4) r)) (hct : μ r = some (oaT 6 k o, aI G 5 f)) (hf : ∀ j, j < 5 → f j = P 6 k (5 + j)) (hμ : μ' = updM μ r (oaT 6 k o, aI G 5 (upd f w v))) : zPR G μ' p o (updP P 6 k (5 + w) v) A c := by
  have hne : A 6 k ≠ r := zneq hob hct (by simp)
  refine h.set hO (Or.inr (Or.inr (Or.inr (Or.inr rfl)))) (by decide) hk (hμ ▸ zKp.put hct (Or.inr rfl)) ?_
  refine ⟨r, upd f w v, ?_, hμ ▸ updM_eq _ _ _, fun j hj => ?_⟩
  · rw [updP_ne (by omega), updP_ne (by omega), updP_ne (by omega), updP_ne (by omega), updP_ne (by omega), hμ, updM_ne hne]
    exact hob
  · by_cases e : j = w
    · subst e; rw [pk_us, updP_eq]
    · rw [pk_un e, updP_ne (by omega)]; exact hf j hj
/-- one asked promise more -/
theorem tTallyN_c {b w n : Nat} [hd : Decidable (tForD P b n ∧ P 3 (tSh P b) 1 ≤ P 6 n 3)] : updP (tTallyN P b w n) 6 n (5 + w) (P 6 n (5 + w) + (if tForD P b n ∧ P 3 (tSh P b) 1 ≤ P 6 n 3 then P 4 b 1 else 0)) = tTallyN P b w (n + 1) := by
  by_cases q : tForD P b n ∧ P 3 (tSh P b) 1 ≤ P 6 n 3
  · rw [if_pos q]; exact tTallyN_t q
  · rw [if_neg q, Int32.add_zero, tTallyN_s q, ← tTallyN_hi (P := P) (b := b) (which := w) (s := 6) (c := 5 + w) (Nat.le_refl n)]
    exact updP_id
theorem C_counts {b w : Nat} (h : zPR G μ p o P A c) (hO : tOk P) (hB : tBkOk P) (hb : b < pcn P 10) (hw : w < 5) : Meets G 5 MX1_counts [.ref p, .ref (A 4 b), .int (nI w)] μ (fun v μ' => v = none ∧ zPR G μ' p o (tTally P b w) A c ∧ zKp (zKo o) μ μ') 1 4 := by
  have hL := h.lpr
  obtain ⟨_, chL⟩ := hL.cell
  have hcn : pcn P 12 ≤ 12 := hO.p.2
  have hsn : pcn P 9 ≤ 60 := hO.s.2
  have hp := h.1
  obtain ⟨hbs, hbs2⟩ := hB b hb
  have ec : ∀ n j, pcn (tTallyN P b w n) j = pcn P j := fun n j => by unfold pcn; rw [tTallyN_lo (Or.inl (by decide))]
  refine meets_of (by decide +kernel) (Nat.le_of_ble_eq_true rfl) ?_
  first | refine aw_aload_n (i := 0) (q := 1) dX1_counts_0 rfl rfl rfl ?_ | refine aw_aloadN_n (i := 0) (q := 1) dX1_counts_0 rfl rfl rfl ?_ | refine aw_aloadQ_n (i := 0) (q := 1) dX1_counts_0 rfl rfl rfl ?_
  refine aw_getfield (q := 4) dX1_counts_1 gf_X1_31_1 (by assumption) rfl rfl ?_
  refine aw_callF (q := 9) dX1_counts_4 (C_AL_iterator (u := zTI) hL zTI_nz) cf_X1_50_14 (by assumption) rfl rfl (by decide) (by decide) (by first | exact Nat.le_of_ble_eq_true rfl | simp [zcat_rf, Value.category]) rfl (fun v4 μ1 hp => ?_)
  obtain ⟨it, rfl, hitn, hg⟩ := hp
  first | refine aw_astore_n (i := 3) (q := 10) dX1_counts_9 rfl (by decide) rfl ?_ | refine aw_astoreN_n (i := 3) (q := 10) dX1_counts_9 rfl (by decide) rfl ?_ | refine aw_astoreQ_n (i := 3) (q := 10) dX1_counts_9 rfl (by decide) rfl ?_
  have hk1 : zKp (zKo o) μ μ1 := hg ▸ zKp.new hitn
  have hit1 : μ1 it = _ := hg ▸ updM_eq _ _ _
  have loop : ∀ (rem k : Nat) (lr : Int32) (μ2 : zM), k + rem = pcn P 12 → zPR G μ2 p o (tTallyN P b w k) A c → zKp (zKo o) μ μ2 → μ2 it = some (zTI, oItr k lr (c 6) (A 7 6)) → AW G 5 MX1_counts (fun v μ' => v = none ∧ zPR G μ' p o (tTally P b w) A c ∧ zKp (zKo o) μ μ') 0 0 10 [(0, .ref p), (1, .ref (A 4 b)), (2, .int (nI w)), (3, .ref it)] [] μ2 := by
    intro rem
    induction rem with
    | zero =>
      intro k lr μ2 hk h2 hkp hi
      have ek : k = pcn P 12 := by omega
      have hL2 := h2.lpr
      obtain ⟨_, chL2⟩ := hL2.cell
      rw [ec] at hL2
      first | refine aw_aload_n (i := 3) (q := 11) dX1_counts_10 rfl rfl rfl ?_ | refine aw_aloadN_n (i := 3) (q := 11) dX1_counts_10 rfl rfl rfl ?_ | refine aw_aloadQ_n (i := 3) (q := 11) dX1_counts_10 rfl rfl rfl ?_
      refine aw_callF (q := 16) dX1_counts_11 (C_Itr_hasNext hL2 hi) cf_X1_56_11 (by assumption) rfl rfl (by decide) (by decide) (by first | exact Nat.le_of_ble_eq_true rfl | simp [zcat_rf, Value.category]) rfl (zpk ?_)
      refine aw_if_eq (tgt := 76) (q := 19) dX1_counts_16 (by decide) rfl (fun _ => ?_) (fun hZ => absurd ((zB_f (fun q => q (by rw [ek])))) hZ)
      exact aw_return dX1_counts_76 rfl (⟨rfl, by rw [ek] at h2; exact h2, hkp⟩)
    | succ rem ih =>
      intro k lr μ2 hk h2 hkp hi
      have hkn : k < pcn P 12 := by omega
      have hL2 := h2.lpr
      obtain ⟨_, chL2⟩ := hL2.cell
      rw [ec] at hL2
      first | refine aw_aload_n (i := 3) (q := 11) dX1_counts_10 rfl rfl rfl ?_ | refine aw_aloadN_n (i := 3) (q := 11) dX1_counts_10 rfl rfl rfl ?_ | refine aw_aloadQ_n (i := 3) (q := 11) dX1_counts_10 rfl rfl rfl ?_
      refine aw_callF (q := 16) dX1_counts_11 (C_Itr_hasNext hL2 hi) cf_X1_56_11 (by assumption) rfl rfl (by decide) (by decide) (by first | exact Nat.le_of_ble_eq_true rfl | simp [zcat_rf, Value.category]) rfl (zpk ?_)
      refine aw_if_eq (tgt := 76) (q := 19) dX1_counts_16 (by decide) rfl (fun hZ => absurd hZ (zHn hkn (by omega))) (fun _ => ?_)
      first | refine aw_aload_n (i := 3) (q := 20) dX1_counts_19 rfl rfl rfl ?_ | refine aw_aloadN_n (i := 3) (q := 20) dX1_counts_19 rfl rfl rfl ?_ | refine aw_aloadQ_n (i := 3) (q := 20) dX1_counts_19 rfl rfl rfl ?_
      refine aw_callF (q := 25) dX1_counts_20 (C_Itr_next hL2 hi hkn zTI_nz zTI_ls zTI_la) cf_X1_62_11 (by assumption) rfl rfl (by decide) (by decide) (by first | exact Nat.le_of_ble_eq_true rfl | simp [zcat_rf, Value.category]) rfl (fun v20 μ3 hp => ?_)
      obtain ⟨rfl, hg3⟩ := hp
      have h3 := h2.ti hi hg3
      have hkp3 : zKp (zKo o) μ μ3 := hg3 ▸ hkp.it hitn
      have hi3 : μ3 it = _ := hg3 ▸ updM_eq _ _ _
      have hp3 := h3.1
      obtain ⟨r, f, hpr, hct, hf⟩ := h3.pr (i := k) (by rw [ec]; exact hkn)
      obtain ⟨rb, fb, hob, -, -⟩ := h3.bk (i := b) (by rw [ec]; exact hb)
      obtain ⟨ts, rs, fs, hsh, htm, -, -⟩ := h3.sh (i := tSh P b) (by rw [ec]; exact hbs2)
      have hLs := h3.lsh
      obtain ⟨_, chLs⟩ := hLs.cell
      rw [ec] at hLs
      have hpr0 := hpr
      rw [tTallyN_lo (Or.inl (by decide)), hbs, tTallyN_lo (s := 4) (c := 1) (Or.inl (by decide)), tTallyN_lo (s := 4) (c := 2) (Or.inl (by decide))] at hob
      rw [tTallyN_lo (s := 6) (c := 0) (Or.inr (by decide)), tTallyN_lo (s := 6) (c := 1) (Or.inr (by decide)), tTallyN_lo (s := 6) (c := 3) (Or.inr (by decide)), tTallyN_lo (s := 6) (c := 4) (Or.inr (by decide))] at hpr
      rw [tTallyN_lo (s := 3) (c := 0) (Or.inl (by decide))] at hsh
      rw [tTallyN_lo (s := 3) (c := 1) (Or.inl (by decide))] at htm
      have hfw : f w = P 6 k (5 + w) := (hf w hw).trans (tTallyN_hi (Nat.le_refl k))
      have htz : oaT 6 k o ≠ zC := oaT_nz
      have hir : it ≠ r := zneq hi3 hct (by simp)
      have hjn : ∀ (x : Int32) (μ4 : zM), x = (if tForD P b k ∧ P 3 (tSh P b) 1 ≤ P 6 k 3 then P 4 b 1 else 0) → μ4 = updM μ3 r (oaT 6 k o, aI G 5 (upd f w (P 6 k (5 + w) + x))) → AW G 5 MX1_counts (fun v μ' => v = none ∧ zPR G μ' p o (tTally P b w) A c ∧ zKp (zKo o) μ μ') 0 0 10 [(0, .ref p), (1, .ref (A 4 b)), (2, .int (nI w)), (3, .ref it)] [] μ4 := by
        intro x μ4 hx hg4
        have h4 := h3.pcount (hO.congr (fun j _ _ => tTallyN_lo (Or.inl (by decide)))) (by rw [ec]; exact hkn) hw hpr0 hct hf hg4
        rw [hx, tTallyN_c] at h4
        exact ih (k + 1) _ μ4 (by omega) h4 (hkp3.tr (hg4 ▸ zKp.put hct zKo.oa)) (hg4 ▸ (updM_ne hir).trans hi3)
      refine aw_cast (q := 28) dX1_counts_25 q635 hpr ca_7_X7 rfl ?_
      first | refine aw_astore (q := 30) dX1_counts_28 (by decide) rfl ?_ | refine aw_astoreN (q := 30) dX1_counts_28 (by decide) rfl ?_ | refine aw_astoreQ (q := 30) dX1_counts_28 (by decide) rfl ?_
      try simp (config := {decide := true}) only [zput, zdel_q, zdel_f, zdel_t, zdel_nil, zdel_r, zdel_i, zdel_n]
      first | refine aw_aload (q := 32) dX1_counts_30 rfl rfl ?_ | refine aw_aloadN (q := 32) dX1_counts_30 rfl rfl ?_ | refine aw_aloadQ (q := 32) dX1_counts_30 rfl rfl ?_
      refine aw_getfield (q := 35) dX1_counts_32 gf_X1_152_7 (by assumption) rfl rfl ?_
      refine aw_iload_n (i := 2) (q := 36) dX1_counts_35 rfl rfl rfl ?_
      refine aw_dup2 (q := 37) dX1_counts_36 (by first | rfl | exact zcat_rf _) (by first | rfl | exact zcat_rf _) rfl ?_
      refine aw_iald (q := 38) (v := P 6 k (5 + w)) (w) dX1_counts_37 (by assumption) (by first | assumption | (simp only [← nI_add, ← pk_mul]; rfl) | rfl) (by omega) (by omega) (hfw) rfl ?_
      first | refine aw_aload (q := 40) dX1_counts_38 rfl rfl ?_ | refine aw_aloadN (q := 40) dX1_counts_38 rfl rfl ?_ | refine aw_aloadQ (q := 40) dX1_counts_38 rfl rfl ?_
      first | refine aw_aload_n (i := 1) (q := 41) dX1_counts_40 rfl rfl rfl ?_ | refine aw_aloadN_n (i := 1) (q := 41) dX1_counts_40 rfl rfl rfl ?_ | refine aw_aloadQ_n (i := 1) (q := 41) dX1_counts_40 rfl rfl rfl ?_
      first | refine aw_aload_n (i := 0) (q := 42) dX1_counts_41 rfl rfl rfl ?_ | refine aw_aloadN_n (i := 0) (q := 42) dX1_counts_41 rfl rfl rfl ?_ | refine aw_aloadQ_n (i := 0) (q := 42) dX1_counts_41 rfl rfl rfl ?_
      refine aw_getfield (q := 45) dX1_counts_42 gf_X1_25_1 (by assumption) rfl rfl ?_
      first | refine aw_aload_n (i := 1) (q := 46) dX1_counts_45 rfl rfl rfl ?_ | refine aw_aloadN_n (i := 1) (q := 46) dX1_counts_45 rfl rfl rfl ?_ | refine aw_aloadQ_n (i := 1) (q := 46) dX1_counts_45 rfl rfl rfl ?_
      refine aw_getfield (q := 49) dX1_counts_46 gf_X1_155_6 (by assumption) rfl rfl ?_
      refine aw_callF (q := 54) dX1_counts_49 (C_AL_get hLs hbs2 (by omega)) cf_X1_115_14 (by assumption) rfl rfl (by decide) (by decide) (by first | exact Nat.le_of_ble_eq_true rfl | simp [zcat_rf, Value.category]) rfl (zpk ?_)
      refine aw_cast (q := 57) dX1_counts_54 q535 hsh ca_5_X5 rfl ?_
      refine aw_callV (q := 60) dX1_counts_57 (C_Pr_isFor hpr hob hsh htm) cv_X1_158_7 (by assumption) rfl rfl (by decide) (by decide) (by first | exact Nat.le_of_ble_eq_true rfl | simp [zcat_rf, Value.category]) rfl (zpk ?_)
      refine aw_if_eq (tgt := 70) (q := 63) dX1_counts_60 (by decide) rfl (fun hc => ?_) (fun hc => ?_)
      · refine aw_iconst (v := 0) (q := 71) dX1_counts_70 rfl rfl ?_
        refine aw_iadd (q := 72) dX1_counts_71 rfl ?_
        refine aw_iast (q := 73) (w) dX1_counts_72 hct (by first | assumption | simp) (by first | assumption | (simp only [← nI_add, ← pk_mul]; rfl) | rfl) (by omega) (by omega) rfl (fun μ4 hg_μ4 => ?_)
        have hct : μ4 _ = some _ := hg_μ4 ▸ updM_eq _ _ _
        have hx : (0 : Int32) = (if tForD P b k ∧ P 3 (tSh P b) 1 ≤ P 6 k 3 then P 4 b 1 else 0) := (if_neg (fun q => absurd hc (by rw [zB_t ⟨q.1.1, q.1.2.1.symm, q.1.2.2.symm, q.2⟩]; decide))).symm
        refine aw_goto (tgt := 10) dX1_counts_73 (by decide) ?_
        exact AW.bud (aw_locals (by exact ⟨rfl, rfl, rfl, rfl, trivial⟩) (hjn _ μ4 hx hg_μ4)) (by omega) (by omega)
      · first | refine aw_aload_n (i := 1) (q := 64) dX1_counts_63 rfl rfl rfl ?_ | refine aw_aloadN_n (i := 1) (q := 64) dX1_counts_63 rfl rfl rfl ?_ | refine aw_aloadQ_n (i := 1) (q := 64) dX1_counts_63 rfl rfl rfl ?_
        refine aw_getfield (q := 67) dX1_counts_64 gf_X1_162_6 (by assumption) rfl rfl ?_
        refine aw_goto (tgt := 71) dX1_counts_67 (by decide) ?_
        refine aw_iadd (q := 72) dX1_counts_71 rfl ?_
        refine aw_iast (q := 73) (w) dX1_counts_72 hct (by first | assumption | simp) (by first | assumption | (simp only [← nI_add, ← pk_mul]; rfl) | rfl) (by omega) (by omega) rfl (fun μ4 hg_μ4 => ?_)
        have hct : μ4 _ = some _ := hg_μ4 ▸ updM_eq _ _ _
        have hx : P 4 b 1 = (if tForD P b k ∧ P 3 (tSh P b) 1 ≤ P 6 k 3 then P 4 b 1 else 0) := by
          have q := Classical.byContradiction (fun n => hc (zB_f n))
          exact (if_pos ⟨⟨q.1, q.2.1.symm, q.2.2.1.symm⟩, q.2.2.2⟩).symm
        refine aw_goto (tgt := 10) dX1_counts_73 (by decide) ?_
        exact AW.bud (aw_locals (by exact ⟨rfl, rfl, rfl, rfl, trivial⟩) (hjn _ μ4 hx hg_μ4)) (by omega) (by omega)
  have h1 : zPR G μ1 p o (tTallyN P b w 0) A c := by
    have e0 : tTallyN P b w 0 = P := by funext s i j; exact tTallyN_hi (Nat.zero_le _)
    rw [e0]
    exact zF.pr h (hg ▸ zKp.new hitn)
  exact AW.bud (aw_locals (by exact ⟨rfl, rfl, rfl, rfl, trivial⟩) (loop (pcn P 12) 0 (-1) μ1 (by omega) h1 hk1 hit1)) (by omega) (by omega)
theorem zSwp (a b c : Int32) : a + b - c = a - c + b := by
  rw [Int32.sub_eq_add_neg, Int32.sub_eq_add_neg, Int32.add_assoc, Int32.add_assoc, Int32.add_comm b]
/-- what is free when a booking leaves -/
theorem tFreeInF_vac {b r : Nat} {x st rf : Int32} (hr : r < 8) : ∀ n, tFreeInF (tVacate P b st rf) x r n = tFreeInF P x r n + (if b < n ∧ P 4 b 0 = x then P 4 b (8 + r) else 0)
  | 0 => by rw [if_neg (by omega), Int32.add_zero]; rfl
  | n + 1 => by
    have ih := tFreeInF_vac (b := b) (x := x) (st := st) (rf := rf) hr n
    have e0 : ∀ i, tVacate P b st rf 4 i 0 = P 4 i 0 := fun i => by
      unfold tVacate tVacateN
      by_cases e : i = b
      · rw [if_pos ⟨rfl, e⟩]; rfl
      · rw [if_neg (by omega)]
    have e8 : tVacate P b st rf 4 n (8 + r) = if n = b then 0 else P 4 n (8 + r) := by
      unfold tVacate tVacateN
      by_cases e : n = b
      · rw [if_pos ⟨rfl, e⟩, if_neg (by omega), if_neg (by omega), if_pos (by omega), if_pos e]
      · rw [if_neg (by omega), if_neg e]
    unfold tFreeInF
    rw [ih, e0, e8]
    by_cases e : n = b
    · subst e
      rw [if_pos rfl, if_neg (by omega : ¬ (n < n ∧ _))]
      by_cases hx : P 4 n 0 = x
      · rw [if_pos hx, if_pos hx, if_pos ⟨by omega, hx⟩, Int32.add_zero, Int32.sub_zero, Int32.sub_add_cancel]
      · rw [if_neg hx, if_neg hx, if_neg (fun q => hx q.2), Int32.add_zero, Int32.sub_zero, Int32.add_zero]
    · rw [if_neg e]
      have ecd : (if b < n + 1 ∧ P 4 b 0 = x then P 4 b (8 + r) else 0) = (if b < n ∧ P 4 b 0 = x then P 4 b (8 + r) else (0 : Int32)) := by
        by_cases hn : b < n ∧ P 4 b 0 = x
        · rw [if_pos hn, if_pos (⟨by omega, hn.2⟩ : b < n + 1 ∧ P 4 b 0 = x)]
        · rw [if_neg hn, if_neg (fun (q : b < n + 1 ∧ P 4 b 0 = x) => hn ⟨by omega, q.2⟩)]
      rw [ecd]
      exact zSwp _ _ _
theorem tVacate_c0 {b j : Nat} {st rf : Int32} : tVacate P b st rf 0 0 j = P 0 0 j := by unfold tVacate tVacateN; rw [if_neg (by omega)]
/-- a booking leaves its show -/
theorem C_leaves {b : Nat} {st rf : Int32} (h : zPR G μ p o P A c) (hO : tOk P) (hB : tBkOk P) (hb : b < pcn P 10) : Meets G 1 MX6_leaves [.ref (A 4 b), .ref (A 3 (tSh P b)), .int st, .int rf] μ (fun v μ' => v = none ∧ zPR G μ' p o (tVacate P b st rf) A c ∧ zKp (zKo o) μ μ') 0 0 := by
  obtain ⟨hbs, hbs2⟩ := hB b hb
  obtain ⟨r, g, hob, hrw, hg⟩ := h.bk hb
  obtain ⟨t, fr, f, hsh, htm, hfr, hf⟩ := h.sh hbs2
  have sb80 : pcn P 10 ≤ 80 := hO.b.2
  have s60 : pcn P 9 ≤ 60 := hO.s.2
  refine (C_Bk_leaves hob hrw hsh hfr obT_nz oaT_nz oaT_nz (fun e => ?_)).weaken ?_
  · have e1 : 30001 + 1000 * 4 + 2 * b = 30001 + 1000 * 3 + 2 * tSh P b := congrArg Prod.fst e
    omega
  · rintro v μ' ⟨rfl, f', g', k1, k2, k3, k4, k5⟩
    have k6 : zKp (fun _ u => (u = obT 4 b o ∨ u = oaT 4 b o) ∨ u = oaT 3 (tSh P b) o) μ μ' := by
      intro a t' e ha hn
      refine k5 a t' e ha (fun q => hn ?_)
      rcases q with q | q | q
      · rw [q, hob] at ha; cases ha; exact Or.inl (Or.inl rfl)
      · rw [q, hrw] at ha; cases ha; exact Or.inl (Or.inr rfl)
      · rw [q, hfr] at ha; cases ha; exact Or.inr rfl
    have k7 : zKp (zKo o) μ μ' := by
      refine k6.mono ?_
      rintro a u ((q | q) | q)
      · subst q; exact zKo.ob
      · subst q; exact zKo.oa
      · subst q; exact zKo.oa
    have ev : ∀ s i j, ¬ (s = 4 ∧ i = b) → tVacate P b st rf s i j = P s i j := fun s i j n => by unfold tVacate tVacateN; rw [if_neg n]
    have efr : ∀ i j, i < pcn P 9 → j < 8 → tFreeIn (tVacate P b st rf) (nI i) j = if i = tSh P b then tFreeIn P (nI i) j + P 4 b (8 + j) else tFreeIn P (nI i) j := fun i j hi hj => by
      have e : pcn (tVacate P b st rf) 10 = pcn P 10 := by unfold pcn; rw [tVacate_c0]
      unfold tFreeIn
      rw [e, tFreeInF_vac hj, hbs]
      by_cases q : i = tSh P b
      · rw [if_pos ⟨hb, by rw [q]⟩, if_pos q]
      · rw [if_neg (fun z => q ((nI_eq (by omega) (by omega)).mp z.2).symm), if_neg q, Int32.add_zero]
    refine ⟨rfl, h.chg (B := fun s i => (s = 4 ∧ i = b) ∨ (s = 3 ∧ i = tSh P b)) hO k6 ?_ (fun j => tVacate_c0) ?_ ?_, k7⟩
    · rintro a u ((q | q) | q)
      · exact ⟨4, b, Or.inr (Or.inr (Or.inr (Or.inl rfl))), by omega, Or.inl ⟨rfl, rfl⟩, Or.inl q⟩
      · exact ⟨4, b, Or.inr (Or.inr (Or.inr (Or.inl rfl))), by omega, Or.inl ⟨rfl, rfl⟩, Or.inr q⟩
      · exact ⟨3, tSh P b, Or.inr (Or.inr (Or.inl rfl)), by omega, Or.inr ⟨rfl, rfl⟩, Or.inr q⟩
    · rintro s i hs hi (⟨rfl, rfl⟩ | ⟨rfl, rfl⟩)
      · refine ⟨r, g', ?_, k2, fun j hj => ?_⟩
        · have e : ∀ j, j < 4 ∨ j = 5 → tVacate P i st rf 4 i j = P 4 i j := fun j hj => by
            unfold tVacate tVacateN
            rw [if_pos ⟨rfl, rfl⟩, if_neg (by omega), if_neg (by omega), if_neg (by omega)]
          have e4 : tVacate P i st rf 4 i 4 = st := by unfold tVacate tVacateN; rw [if_pos ⟨rfl, rfl⟩, if_pos rfl]
          have e6 : tVacate P i st rf 4 i 6 = rf := by unfold tVacate tVacateN; rw [if_pos ⟨rfl, rfl⟩, if_neg (by decide), if_pos rfl]
          rw [e 0 (by omega), e 1 (by omega), e 2 (by omega), e 3 (by omega), e 5 (by omega), e4, e6]
          exact k1
        · rw [(k4 j hj).2]
          unfold tVacate tVacateN
          rw [if_pos ⟨rfl, rfl⟩, if_neg (by omega), if_neg (by omega), if_pos (by omega)]
      · refine ⟨t, fr, f', ?_, ?_, k3, fun j hj => ?_⟩
        · rw [ev _ _ _ (by omega), ev _ _ _ (by omega), ev _ _ _ (by omega), ev _ _ _ (by omega), ev _ _ _ (by omega)]
          refine k6 _ _ _ hsh ?_
          rintro ((q | q) | q)
          · have e1 : 30000 + 1000 * 3 + 2 * tSh P b = 30000 + 1000 * 4 + 2 * b := congrArg Prod.fst q
            omega
          · have e1 : 30000 + 1000 * 3 + 2 * tSh P b = 30001 + 1000 * 4 + 2 * b := congrArg Prod.fst q
            omega
          · have e1 : 30000 + 1000 * 3 + 2 * tSh P b = 30001 + 1000 * 3 + 2 * tSh P b := congrArg Prod.fst q
            omega
        · rw [ev _ _ _ (by omega), ev _ _ _ (by omega)]
          refine k6 _ _ _ htm ?_
          rintro ((q | q) | q)
          · have e1 : 0 = 30000 + 1000 * 4 + 2 * b := congrArg Prod.fst q
            omega
          · have e1 : 0 = 30001 + 1000 * 4 + 2 * b := congrArg Prod.fst q
            omega
          · have e1 : 0 = 30001 + 1000 * 3 + 2 * tSh P b := congrArg Prod.fst q
            omega
        · rw [(k4 j hj).1, hf j hj, hg j hj, efr _ j hbs2 hj, if_pos rfl]
    · intro s i hs hi hn
      have hn4 : ¬ (s = 4 ∧ i = b) := fun q => hn (Or.inl q)
      refine ⟨fun j _ => ev s i j hn4, fun e3 j hj => ?_⟩
      subst e3
      rw [efr i j hi hj, if_neg (fun q => hn (Or.inr ⟨rfl, q⟩))]
end ZPC
