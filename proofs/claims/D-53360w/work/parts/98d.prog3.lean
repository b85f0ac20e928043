/-! THE PROGRAMME: bookings of a show are lost; lamps -/
set_option maxRecDepth 100000
theorem tTally_same1 {P : zP} {b w s i j : Nat} (h : s ≠ 6 ∨ j < 5) : tTally P b w s i j = P s i j := tTallyN_lo h
theorem tTally_cn {P : zP} {b w j : Nat} : pcn (tTally P b w) j = pcn P j := by unfold pcn; rw [tTally_same1 (Or.inl (by decide))]
theorem tLose_same1 {P : zP} {b w : Nat} : tSame P (tLose P b w) := tLose_same
/-- the bookings of a show that are booked (bound alone: those that are bound) are lost, one by one -/
def tLosN (P : zP) (s w : Nat) (bd : Bool) : Nat → zP
  | 0 => P
  | b + 1 => if P 4 b 0 = nI s ∧ P 4 b 4 = 0 ∧ (bd = true → P 4 b 3 ≠ 0) then tLose (tLosN P s w bd b) b w else tLosN P s w bd b
theorem tLosN_same {P : zP} {s w : Nat} {bd : Bool} : ∀ n, tSame P (tLosN P s w bd n)
  | 0 => tSame.rf
  | n + 1 => by
    have ih := tLosN_same (P := P) (s := s) (w := w) (bd := bd) n
    unfold tLosN
    split
    · exact ih.tr tLose_same
    · exact ih
theorem tLosN_bk {P : zP} {s w b j : Nat} {bd : Bool} : ∀ n, n ≤ b → tLosN P s w bd n 4 b j = P 4 b j
  | 0, _ => rfl
  | n + 1, h => by
    have ih := tLosN_bk (P := P) (s := s) (w := w) (bd := bd) (b := b) (j := j) n (by omega)
    unfold tLosN
    split
    · exact (tLose_bk (by omega)).trans ih
    · exact ih
theorem tSame.ok {P Q : zP} (h : tSame P Q) (hO : tOk P) : tOk Q := hO.congr (fun j _ _ => h 0 0 j (by omega))
section ZPD
variable {G : zG} {μ : zM} {p o : Nat} {P : zP} {A : Nat → Nat → Nat} {c : Nat → Int32}
theorem C_loses {b w : Nat} (h : zPR G μ p o P A c) (hO : tOk P) (hB : tBkOk P) (hb : b < pcn P 10) (hw : w < 5) : Meets G 6 MX1_loses [.ref p, .ref (A 4 b), .int (nI w)] μ (fun v μ' => v = none ∧ zPR G μ' p o (tLose P b w) A c ∧ zKp (zKo o) μ μ') 1 4 := by
  have hp := h.1
  obtain ⟨bs1, bs2⟩ := hB b hb
  have s60 : pcn P 9 ≤ 60 := hO.s.2
  refine meets_of (by decide +kernel) (Nat.le_of_ble_eq_true rfl) ?_
  refine AW.bud (bc' := 0 + 1) (bs' := 0 + 4) ?_ (by omega) (by omega)
  first | refine aw_aload_n (i := 0) (q := 1) dX1_loses_0 rfl rfl rfl ?_ | refine aw_aloadN_n (i := 0) (q := 1) dX1_loses_0 rfl rfl rfl ?_ | refine aw_aloadQ_n (i := 0) (q := 1) dX1_loses_0 rfl rfl rfl ?_
  first | refine aw_aload_n (i := 1) (q := 2) dX1_loses_1 rfl rfl rfl ?_ | refine aw_aloadN_n (i := 1) (q := 2) dX1_loses_1 rfl rfl rfl ?_ | refine aw_aloadQ_n (i := 1) (q := 2) dX1_loses_1 rfl rfl rfl ?_
  refine aw_iload_n (i := 2) (q := 3) dX1_loses_2 rfl rfl rfl ?_
  refine aw_callV (q := 6) dX1_loses_3 (C_counts h hO hB hb hw) cv_X1_165_1 (by assumption) rfl rfl (by decide) (by decide) (by first | exact Nat.le_of_ble_eq_true rfl | simp [zcat_rf, Value.category]) rfl (fun v3 μ1 hp => ?_)
  obtain ⟨rfl, h1, k1⟩ := hp
  have hp1 := h1.1
  obtain ⟨r, f, hob, -, -⟩ := h1.bk (i := b) (by rw [tTally_cn]; exact hb)
  have hsx := h1.sh (i := tSh P b) (by rw [tTally_cn]; exact bs2)
  obtain ⟨t, fr, f2, hsh, -, -, -⟩ := hsx
  have hLs := h1.lsh
  obtain ⟨_, chLs⟩ := hLs.cell
  rw [tTally_cn] at hLs
  rw [tTally_same1 (s := 4) (j := 0) (Or.inl (by decide)), bs1, tTally_same1 (s := 4) (j := 5) (Or.inl (by decide))] at hob
  have hO1 : tOk (tTally P b w) := tTally_same.ok hO
  have hB1 : tBkOk (tTally P b w) := tTally_same.bkOk hB
  have es : tSh (tTally P b w) b = tSh P b := tTally_same.sh b
  have hlv := C_leaves (st := 4) (rf := P 4 b 5) h1 hO1 hB1 (b := b) (by rw [tTally_cn]; exact hb)
  rw [es] at hlv
  first | refine aw_aload_n (i := 1) (q := 7) dX1_loses_6 rfl rfl rfl ?_ | refine aw_aloadN_n (i := 1) (q := 7) dX1_loses_6 rfl rfl rfl ?_ | refine aw_aloadQ_n (i := 1) (q := 7) dX1_loses_6 rfl rfl rfl ?_
  first | refine aw_aload_n (i := 0) (q := 8) dX1_loses_7 rfl rfl rfl ?_ | refine aw_aloadN_n (i := 0) (q := 8) dX1_loses_7 rfl rfl rfl ?_ | refine aw_aloadQ_n (i := 0) (q := 8) dX1_loses_7 rfl rfl rfl ?_
  refine aw_getfield (q := 11) dX1_loses_8 gf_X1_25_1 (by assumption) rfl rfl ?_
  first | refine aw_aload_n (i := 1) (q := 12) dX1_loses_11 rfl rfl rfl ?_ | refine aw_aloadN_n (i := 1) (q := 12) dX1_loses_11 rfl rfl rfl ?_ | refine aw_aloadQ_n (i := 1) (q := 12) dX1_loses_11 rfl rfl rfl ?_
  refine aw_getfield (q := 15) dX1_loses_12 gf_X1_155_6 (by assumption) rfl rfl ?_
  refine aw_callF (q := 20) dX1_loses_15 (C_AL_get hLs bs2 (by omega)) cf_X1_115_14 (by assumption) rfl rfl (by decide) (by decide) (by first | exact Nat.le_of_ble_eq_true rfl | simp [zcat_rf, Value.category]) rfl (zpk ?_)
  refine aw_cast (q := 23) dX1_loses_20 q535 hsh ca_5_X5 rfl ?_
  refine aw_iconst (v := 4) (q := 24) dX1_loses_23 rfl rfl ?_
  first | refine aw_aload_n (i := 1) (q := 25) dX1_loses_24 rfl rfl rfl ?_ | refine aw_aloadN_n (i := 1) (q := 25) dX1_loses_24 rfl rfl rfl ?_ | refine aw_aloadQ_n (i := 1) (q := 25) dX1_loses_24 rfl rfl rfl ?_
  refine aw_getfield (q := 28) dX1_loses_25 gf_X1_169_6 (by assumption) rfl rfl ?_
  refine aw_callV (q := 31) dX1_loses_28 (hlv) cv_X1_172_6 (by assumption) rfl rfl (by decide) (by decide) (by first | exact Nat.le_of_ble_eq_true rfl | simp [zcat_rf, Value.category]) rfl (fun v28 μ2 hp => ?_)
  obtain ⟨rfl, h2, k2⟩ := hp
  exact aw_return dX1_loses_31 rfl (⟨rfl, h2, k1.tr k2⟩)
theorem C_losesAll {s w : Nat} {bd : Bool} (h : zPR G μ p o P A c) (hO : tOk P) (hB : tBkOk P) (hs : s < pcn P 9) (hw : w < 5) : Meets G 8 MX1_losesAll [.ref p, .int (nI s), .int (nI w), .int (if bd = true then 1 else 0)] μ (fun v μ' => v = none ∧ zPR G μ' p o (tLosN P s w bd (pcn P 10)) A c ∧ zKp (zKo o) μ μ') (pcn P 10 + 1) (4 * pcn P 10 + 4) := by
  have hL := h.lbk
  obtain ⟨_, chL⟩ := hL.cell
  have b80 : pcn P 10 ≤ 80 := hO.b.2
  have hp := h.1
  have ec : ∀ n j, pcn (tLosN P s w bd n) j = pcn P j := fun n j => (tLosN_same n).cn j
  refine meets_of (by decide +kernel) (Nat.le_of_ble_eq_true rfl) ?_
  refine AW.bud (bc' := (pcn P 10) + 1) (bs' := (4 * pcn P 10) + 4) ?_ (by omega) (by omega)
  first | refine aw_aload_n (i := 0) (q := 1) dX1_losesAll_0 rfl rfl rfl ?_ | refine aw_aloadN_n (i := 0) (q := 1) dX1_losesAll_0 rfl rfl rfl ?_ | refine aw_aloadQ_n (i := 0) (q := 1) dX1_losesAll_0 rfl rfl rfl ?_
  refine aw_getfield (q := 4) dX1_losesAll_1 gf_X1_28_1 (by assumption) rfl rfl ?_
  refine aw_callF (q := 9) dX1_losesAll_4 (C_AL_iterator (u := zTI) hL zTI_nz) cf_X1_50_14 (by assumption) rfl rfl (by decide) (by decide) (by first | exact Nat.le_of_ble_eq_true rfl | simp [zcat_rf, Value.category]) rfl (fun v4 μ1 hp => ?_)
  obtain ⟨it, rfl, hitn, hg⟩ := hp
  first | refine aw_astore (q := 11) dX1_losesAll_9 (by decide) rfl ?_ | refine aw_astoreN (q := 11) dX1_losesAll_9 (by decide) rfl ?_ | refine aw_astoreQ (q := 11) dX1_losesAll_9 (by decide) rfl ?_
  have hk1 : zKp (zKo o) μ μ1 := hg ▸ zKp.new hitn
  have hit1 : μ1 it = _ := hg ▸ updM_eq _ _ _
  have loop : ∀ (rem k : Nat) (lr : Int32) (μ2 : zM), k + rem = pcn P 10 → zPR G μ2 p o (tLosN P s w bd k) A c → zKp (zKo o) μ μ2 → μ2 it = some (zTI, oItr k lr (c 4) (A 7 4)) → ∀ (bc bs : Nat), rem ≤ bc → 4 * rem ≤ bs → AW G 8 MX1_losesAll (fun v μ' => v = none ∧ zPR G μ' p o (tLosN P s w bd (pcn P 10)) A c ∧ zKp (zKo o) μ μ') bc bs 11 [(0, .ref p), (1, .int (nI s)), (2, .int (nI w)), (3, .int (if bd = true then 1 else 0)), (4, .ref it)] [] μ2 := by
    intro rem
    induction rem with
    | zero =>
      intro k lr μ2 hk h2 hkp hi bc bs hbc hbs
      have ek : k = pcn P 10 := by omega
      have hL2 := h2.lbk
      obtain ⟨_, chL2⟩ := hL2.cell
      rw [ec] at hL2
      first | refine aw_aload (q := 13) dX1_losesAll_11 rfl rfl ?_ | refine aw_aloadN (q := 13) dX1_losesAll_11 rfl rfl ?_ | refine aw_aloadQ (q := 13) dX1_losesAll_11 rfl rfl ?_
      refine aw_callF (q := 18) dX1_losesAll_13 (C_Itr_hasNext hL2 hi) cf_X1_56_11 (by assumption) rfl rfl (by decide) (by decide) (by first | exact Nat.le_of_ble_eq_true rfl | simp [zcat_rf, Value.category]) rfl (zpk ?_)
      refine aw_if_eq (tgt := 72) (q := 21) dX1_losesAll_18 (by decide) rfl (fun _ => ?_) (fun hZ => absurd ((zB_f (fun q => q (by rw [ek])))) hZ)
      exact aw_return dX1_losesAll_72 rfl (⟨rfl, by rw [ek] at h2; exact h2, hkp⟩)
    | succ rem ih =>
      intro k lr μ2 hk h2 hkp hi bc bs hbc hbs
      have hkn : k < pcn P 10 := by omega
      have hL2 := h2.lbk
      obtain ⟨_, chL2⟩ := hL2.cell
      rw [ec] at hL2
      first | refine aw_aload (q := 13) dX1_losesAll_11 rfl rfl ?_ | refine aw_aloadN (q := 13) dX1_losesAll_11 rfl rfl ?_ | refine aw_aloadQ (q := 13) dX1_losesAll_11 rfl rfl ?_
      refine aw_callF (q := 18) dX1_losesAll_13 (C_Itr_hasNext hL2 hi) cf_X1_56_11 (by assumption) rfl rfl (by decide) (by decide) (by first | exact Nat.le_of_ble_eq_true rfl | simp [zcat_rf, Value.category]) rfl (zpk ?_)
      refine aw_if_eq (tgt := 72) (q := 21) dX1_losesAll_18 (by decide) rfl (fun hZ => absurd hZ (zHn hkn (by omega))) (fun _ => ?_)
      first | refine aw_aload (q := 23) dX1_losesAll_21 rfl rfl ?_ | refine aw_aloadN (q := 23) dX1_losesAll_21 rfl rfl ?_ | refine aw_aloadQ (q := 23) dX1_losesAll_21 rfl rfl ?_
      refine aw_callF (q := 28) dX1_losesAll_23 (C_Itr_next hL2 hi hkn zTI_nz zTI_ls zTI_la) cf_X1_62_11 (by assumption) rfl rfl (by decide) (by decide) (by first | exact Nat.le_of_ble_eq_true rfl | simp [zcat_rf, Value.category]) rfl (fun v23 μ3 hp => ?_)
      obtain ⟨rfl, hg3⟩ := hp
      have h3 := h2.ti hi hg3
      have hkp3 : zKp (zKo o) μ μ3 := hg3 ▸ hkp.it hitn
      have hi3 : μ3 it = _ := hg3 ▸ updM_eq _ _ _
      have hp3 := h3.1
      obtain ⟨r, f, hob, -, -⟩ := h3.bk (i := k) (by rw [ec]; exact hkn)
      rw [tLosN_bk k (Nat.le_refl k), tLosN_bk k (Nat.le_refl k), tLosN_bk k (Nat.le_refl k), tLosN_bk k (Nat.le_refl k), tLosN_bk k (Nat.le_refl k), tLosN_bk k (Nat.le_refl k), tLosN_bk k (Nat.le_refl k)] at hob
      have skip : ¬ (P 4 k 0 = nI s ∧ P 4 k 4 = 0 ∧ (bd = true → P 4 k 3 ≠ 0)) → AW G 8 MX1_losesAll (fun v μ' => v = none ∧ zPR G μ' p o (tLosN P s w bd (pcn P 10)) A c ∧ zKp (zKo o) μ μ') bc bs 69 [(0, .ref p), (1, .int (nI s)), (2, .int (nI w)), (3, .int (if bd = true then 1 else 0)), (4, .ref it)] [] μ3 := by
        intro hn
        have e : tLosN P s w bd (k + 1) = tLosN P s w bd k := if_neg hn
        refine aw_goto (tgt := 11) dX1_losesAll_69 (by decide) ?_
        exact AW.bud (aw_locals (by exact ⟨rfl, rfl, rfl, rfl, rfl, trivial⟩) (ih (k + 1) _ μ3 (by omega) (by rw [e]; exact h3) hkp3 hi3 bc bs (by omega) (by omega))) (by omega) (by omega)
      have take : P 4 k 0 = nI s ∧ P 4 k 4 = 0 ∧ (bd = true → P 4 k 3 ≠ 0) → AW G 8 MX1_losesAll (fun v μ' => v = none ∧ zPR G μ' p o (tLosN P s w bd (pcn P 10)) A c ∧ zKp (zKo o) μ μ') bc bs 62 [(0, .ref p), (1, .int (nI s)), (2, .int (nI w)), (3, .int (if bd = true then 1 else 0)), (4, .ref it), (5, .ref (A 4 k))] [] μ3 := by
        intro hy
        have e : tLosN P s w bd (k + 1) = tLose (tLosN P s w bd k) k w := if_pos hy
        first | refine aw_aload_n (i := 0) (q := 63) dX1_losesAll_62 rfl rfl rfl ?_ | refine aw_aloadN_n (i := 0) (q := 63) dX1_losesAll_62 rfl rfl rfl ?_ | refine aw_aloadQ_n (i := 0) (q := 63) dX1_losesAll_62 rfl rfl rfl ?_
        first | refine aw_aload (q := 65) dX1_losesAll_63 rfl rfl ?_ | refine aw_aloadN (q := 65) dX1_losesAll_63 rfl rfl ?_ | refine aw_aloadQ (q := 65) dX1_losesAll_63 rfl rfl ?_
        refine aw_iload_n (i := 2) (q := 66) dX1_losesAll_65 rfl rfl rfl ?_
        refine AW.bud (bc' := (bc - 1) + 1) (bs' := (bs - 4) + 4) ?_ (by omega) (by omega)
        refine aw_callV (q := 69) dX1_losesAll_66 (C_loses (b := k) h3 ((tLosN_same k).ok hO) ((tLosN_same k).bkOk hB) (by rw [ec]; exact hkn) hw) cv_X1_183_1 (by assumption) rfl rfl (by decide) (by decide) (by first | exact Nat.le_of_ble_eq_true rfl | simp [zcat_rf, Value.category]) rfl (fun v66 μ4 hp => ?_)
        obtain ⟨rfl, h4, k4⟩ := hp
        have hi4 := k4 _ _ _ hi3 (fun q => by have q2 : 20000 ≤ 0 := q.2; omega)
        refine aw_goto (tgt := 11) dX1_losesAll_69 (by decide) ?_
        exact AW.bud (aw_locals (by exact ⟨rfl, rfl, rfl, rfl, rfl, trivial⟩) (ih (k + 1) _ μ4 (by omega) (by rw [e]; exact h4) (hkp3.tr k4) hi4 (bc - 1) (bs - 4) (by omega) (by omega))) (by omega) (by omega)
      refine aw_cast (q := 31) dX1_losesAll_28 q583 hob ca_6_X6 rfl ?_
      first | refine aw_astore (q := 33) dX1_losesAll_31 (by decide) rfl ?_ | refine aw_astoreN (q := 33) dX1_losesAll_31 (by decide) rfl ?_ | refine aw_astoreQ (q := 33) dX1_losesAll_31 (by decide) rfl ?_
      try simp (config := {decide := true}) only [zput, zdel_q, zdel_f, zdel_t, zdel_nil, zdel_r, zdel_i, zdel_n]
      first | refine aw_aload (q := 35) dX1_losesAll_33 rfl rfl ?_ | refine aw_aloadN (q := 35) dX1_losesAll_33 rfl rfl ?_ | refine aw_aloadQ (q := 35) dX1_losesAll_33 rfl rfl ?_
      refine aw_getfield (q := 38) dX1_losesAll_35 gf_X1_155_6 (by assumption) rfl rfl ?_
      refine aw_iload_n (i := 1) (q := 39) dX1_losesAll_38 rfl rfl rfl ?_
      refine aw_icmp_ne (tgt := 69) (q := 42) dX1_losesAll_39 (by decide) rfl (fun c1 => ?_) (fun c1 => ?_)
      · skip
        refine aw_locals (by exact ⟨rfl, rfl, rfl, rfl, rfl, trivial⟩) (skip (fun q => c1 q.1))
      · first | refine aw_aload (q := 44) dX1_losesAll_42 rfl rfl ?_ | refine aw_aloadN (q := 44) dX1_losesAll_42 rfl rfl ?_ | refine aw_aloadQ (q := 44) dX1_losesAll_42 rfl rfl ?_
        refine aw_getfield (q := 47) dX1_losesAll_44 gf_X1_176_6 (by assumption) rfl rfl ?_
        refine aw_if_ne (tgt := 69) (q := 50) dX1_losesAll_47 (by decide) rfl (fun c2 => ?_) (fun c2 => ?_)
        · skip
          refine aw_locals (by exact ⟨rfl, rfl, rfl, rfl, rfl, trivial⟩) (skip (fun q => c2 q.2.1))
        · first | refine aw_aload (q := 52) dX1_losesAll_50 rfl rfl ?_ | refine aw_aloadN (q := 52) dX1_losesAll_50 rfl rfl ?_ | refine aw_aloadQ (q := 52) dX1_losesAll_50 rfl rfl ?_
          refine aw_getfield (q := 55) dX1_losesAll_52 gf_X1_179_6 (by assumption) rfl rfl ?_
          refine aw_if_ne (tgt := 62) (q := 58) dX1_losesAll_55 (by decide) rfl (fun c3 => ?_) (fun c3 => ?_)
          · skip
            refine aw_locals (by exact ⟨rfl, rfl, rfl, rfl, rfl, rfl, trivial⟩) (take ⟨c1, c2, fun _ => c3⟩)
          · refine aw_iload_n (i := 3) (q := 59) dX1_losesAll_58 rfl rfl rfl ?_
            refine aw_if_ne (tgt := 69) (q := 62) dX1_losesAll_59 (by decide) rfl (fun c4 => ?_) (fun c4 => ?_)
            · skip
              refine aw_locals (by exact ⟨rfl, rfl, rfl, rfl, rfl, trivial⟩) (skip (fun q => q.2.2 (by (cases bd with | true => rfl | false => exact absurd rfl c4)) c3))
            · skip
              refine aw_locals (by exact ⟨rfl, rfl, rfl, rfl, rfl, rfl, trivial⟩) (take ⟨c1, c2, fun q => absurd c4 (by rw [q]; decide)⟩)
  exact AW.bud (aw_locals (by exact ⟨rfl, rfl, rfl, rfl, rfl, trivial⟩) (loop (pcn P 10) 0 (-1) μ1 (by omega) (zF.pr h (hg ▸ zKp.new hitn)) hk1 hit1 _ _ (Nat.le_refl _) (Nat.le_refl _))) (by omega) (by omega)
/-- at most one lamp is fitted -/
def tOneF (P : zP) : Prop := ∀ i j, i < pcn P 8 → j < pcn P 8 → P 2 i 2 = 1 → P 2 j 2 = 1 → i = j
theorem zFitted_none : ∀ n, (∀ j, j < n → P 2 j 2 ≠ 1) → tFitted P n = -6
  | 0, _ => rfl
  | n + 1, h => by
    unfold tFitted
    rw [if_neg (h n (by omega))]
    exact zFitted_none n (fun j hj => h j (by omega))
theorem zFitted_at (h1 : tOneF P) {k : Nat} (hc : P 2 k 2 = 1) : ∀ n, k < n → n ≤ pcn P 8 → tFitted P n = nI k
  | 0, h, _ => by omega
  | n + 1, h, hn => by
    unfold tFitted
    by_cases e : n = k
    · subst e; rw [if_pos hc]
    · rw [if_neg (fun q => e (h1 n k (by omega) (by omega) q hc))]
      exact zFitted_at h1 hc n (by omega) (by omega)
theorem zFit_or : ∀ n, (tFitted P n = -6 ∧ ∀ j, j < n → P 2 j 2 ≠ 1) ∨ ∃ k, k < n ∧ tFitted P n = nI k ∧ P 2 k 2 = 1
  | 0 => Or.inl ⟨rfl, fun j hj => by omega⟩
  | n + 1 => by
    unfold tFitted
    by_cases e : P 2 n 2 = 1
    · rw [if_pos e]; exact Or.inr ⟨n, by omega, rfl, e⟩
    · rw [if_neg e]
      rcases zFit_or n with ⟨q1, q2⟩ | ⟨k, q1, q2, q3⟩
      · exact Or.inl ⟨q1, fun j hj => by (by_cases z : j = n; (subst z; exact e); exact q2 j (by omega))⟩
      · exact Or.inr ⟨k, by omega, q2, q3⟩
theorem C_fitted (h : zPR G μ p o P A c) (hO : tOk P) (h1 : tOneF P) : Meets G 4 MX1_fitted [.ref p] μ (zPure (.int (tFit P)) μ) 0 0 := by
  have hL := h.lla
  obtain ⟨_, chL⟩ := hL.cell
  have l12 : pcn P 8 ≤ 12 := hO.l.2
  have hp := h.1
  refine meets_of (by decide +kernel) (Nat.le_of_ble_eq_true rfl) ?_
  refine aw_iconst (v := 0) (q := 1) dX1_fitted_0 rfl rfl ?_
  refine aw_istore_n (i := 1) (q := 2) dX1_fitted_1 rfl (by decide) rfl ?_
  have loop : ∀ (rem k : Nat), k + rem = pcn P 8 → (∀ j, j < k → P 2 j 2 ≠ 1) → AW G 4 MX1_fitted (zPure (.int (tFit P)) μ) 0 0 2 [(0, .ref p), (1, .int (nI k))] [] μ := by
    intro rem
    induction rem with
    | zero =>
      intro k hk hj
      have ek : k = pcn P 8 := by omega
      refine aw_iload_n (i := 1) (q := 3) dX1_fitted_2 rfl rfl rfl ?_
      first | refine aw_aload_n (i := 0) (q := 4) dX1_fitted_3 rfl rfl rfl ?_ | refine aw_aloadN_n (i := 0) (q := 4) dX1_fitted_3 rfl rfl rfl ?_ | refine aw_aloadQ_n (i := 0) (q := 4) dX1_fitted_3 rfl rfl rfl ?_
      refine aw_getfield (q := 7) dX1_fitted_4 gf_X1_22_1 (by assumption) rfl rfl ?_
      refine aw_callF (q := 12) dX1_fitted_7 (C_AL_size hL) cf_X1_111_14 (by assumption) rfl rfl (by decide) (by decide) (by first | exact Nat.le_of_ble_eq_true rfl | simp [zcat_rf, Value.category]) rfl (zpk ?_)
      refine aw_icmp_ge (tgt := 43) (q := 15) dX1_fitted_12 (by decide) rfl (fun _ => ?_) (fun hZ => absurd (nI_le (a := pcn P 8) (b := k) (by omega) (by omega)) hZ)
      refine aw_bipush (v := (-6)) (q := 45) dX1_fitted_43 rfl rfl ?_
      exact aw_ireturn dX1_fitted_45 rfl (by first | rfl | exact zB_nar _) (⟨by rw [tFit, zFitted_none _ (ek ▸ hj)], rfl⟩)
    | succ rem ih =>
      intro k hk hj
      have hkn : k < pcn P 8 := by omega
      have hla := h.la hkn
      refine aw_iload_n (i := 1) (q := 3) dX1_fitted_2 rfl rfl rfl ?_
      first | refine aw_aload_n (i := 0) (q := 4) dX1_fitted_3 rfl rfl rfl ?_ | refine aw_aloadN_n (i := 0) (q := 4) dX1_fitted_3 rfl rfl rfl ?_ | refine aw_aloadQ_n (i := 0) (q := 4) dX1_fitted_3 rfl rfl rfl ?_
      refine aw_getfield (q := 7) dX1_fitted_4 gf_X1_22_1 (by assumption) rfl rfl ?_
      refine aw_callF (q := 12) dX1_fitted_7 (C_AL_size hL) cf_X1_111_14 (by assumption) rfl rfl (by decide) (by decide) (by first | exact Nat.le_of_ble_eq_true rfl | simp [zcat_rf, Value.category]) rfl (zpk ?_)
      refine aw_icmp_ge (tgt := 43) (q := 15) dX1_fitted_12 (by decide) rfl (fun hZ => absurd hZ (nI_ge (a := k) (b := pcn P 8) (by omega) (by omega))) (fun _ => ?_)
      first | refine aw_aload_n (i := 0) (q := 16) dX1_fitted_15 rfl rfl rfl ?_ | refine aw_aloadN_n (i := 0) (q := 16) dX1_fitted_15 rfl rfl rfl ?_ | refine aw_aloadQ_n (i := 0) (q := 16) dX1_fitted_15 rfl rfl rfl ?_
      refine aw_getfield (q := 19) dX1_fitted_16 gf_X1_22_1 (by assumption) rfl rfl ?_
      refine aw_iload_n (i := 1) (q := 20) dX1_fitted_19 rfl rfl rfl ?_
      refine aw_callF (q := 25) dX1_fitted_20 (C_AL_get hL hkn (by omega)) cf_X1_115_14 (by assumption) rfl rfl (by decide) (by decide) (by first | exact Nat.le_of_ble_eq_true rfl | simp [zcat_rf, Value.category]) rfl (zpk ?_)
      refine aw_cast (q := 28) dX1_fitted_25 q512 hla ca_4_X4 rfl ?_
      refine aw_getfield (q := 31) dX1_fitted_28 gf_X1_119_4 (by assumption) rfl rfl ?_
      refine aw_iconst (v := 1) (q := 32) dX1_fitted_31 rfl rfl ?_
      refine aw_icmp_ne (tgt := 37) (q := 35) dX1_fitted_32 (by decide) rfl (fun hc => ?_) (fun hc => ?_)
      · refine aw_iinc (q := 40) dX1_fitted_37 rfl (by first | exact nI_1 _ | rfl) (by decide) rfl ?_
        refine aw_goto (tgt := 2) dX1_fitted_40 (by decide) ?_
        exact AW.bud (aw_locals (by exact ⟨rfl, rfl, trivial⟩) (ih (k + 1) (by omega) (fun j hj' => by (by_cases z : j = k; (subst z; exact hc); exact hj j (by omega))))) (by omega) (by omega)
      · refine aw_iload_n (i := 1) (q := 36) dX1_fitted_35 rfl rfl rfl ?_
        exact aw_ireturn dX1_fitted_36 rfl (by first | rfl | exact zB_nar _) (⟨by rw [tFit, zFitted_at h1 hc _ hkn (Nat.le_refl _)], rfl⟩)
  exact AW.bud (aw_locals (by exact ⟨rfl, rfl, trivial⟩) (loop (pcn P 8) 0 (by omega) (fun j hj => by omega))) (by omega) (by omega)
theorem C_hasLight {l : Nat} {y : Int32} (h : zPR G μ p o P A c) (hO : tOk P) (hl : l < pcn P 8) (hf : tLife P) : Meets G 4 MX1_hasLight [.ref p, .int (nI l), .int y] μ (zPure (.int (zB (y ≤ tBr P l))) μ) 0 0 := by
  have hL := h.lla
  obtain ⟨_, chL⟩ := hL.cell
  have l12 : pcn P 8 ≤ 12 := hO.l.2
  have hp := h.1
  have hla := h.la hl
  refine meets_of (by decide +kernel) (Nat.le_of_ble_eq_true rfl) ?_
  refine aw_iload_n (i := 1) (q := 1) dX1_hasLight_0 rfl rfl rfl ?_
  refine aw_if_lt (tgt := 28) (q := 4) dX1_hasLight_1 (by decide) rfl (fun hZ => absurd hZ ((Int32.not_lt.mpr (nI_le (a := 0) (b := l) (by omega) (by omega))))) (fun _ => ?_)
  first | refine aw_aload_n (i := 0) (q := 5) dX1_hasLight_4 rfl rfl rfl ?_ | refine aw_aloadN_n (i := 0) (q := 5) dX1_hasLight_4 rfl rfl rfl ?_ | refine aw_aloadQ_n (i := 0) (q := 5) dX1_hasLight_4 rfl rfl rfl ?_
  refine aw_getfield (q := 8) dX1_hasLight_5 gf_X1_22_1 (by assumption) rfl rfl ?_
  refine aw_iload_n (i := 1) (q := 9) dX1_hasLight_8 rfl rfl rfl ?_
  refine aw_callF (q := 14) dX1_hasLight_9 (C_AL_get hL hl (by omega)) cf_X1_115_14 (by assumption) rfl rfl (by decide) (by decide) (by first | exact Nat.le_of_ble_eq_true rfl | simp [zcat_rf, Value.category]) rfl (zpk ?_)
  refine aw_cast (q := 17) dX1_hasLight_14 q512 hla ca_4_X4 rfl ?_
  refine aw_callV (q := 20) dX1_hasLight_17 (C_Lamp_brightness hla (hf l hl)) cv_X1_125_4 (by assumption) rfl rfl (by decide) (by decide) (by first | exact Nat.le_of_ble_eq_true rfl | simp [zcat_rf, Value.category]) rfl (zpk ?_)
  refine aw_iload_n (i := 2) (q := 21) dX1_hasLight_20 rfl rfl rfl ?_
  refine aw_icmp_lt (tgt := 28) (q := 24) dX1_hasLight_21 (by decide) rfl (fun hc => ?_) (fun hc => ?_)
  · refine aw_iconst (v := 0) (q := 29) dX1_hasLight_28 rfl rfl ?_
    exact aw_ireturn dX1_hasLight_29 rfl (by first | rfl | exact zB_nar _) (⟨by rw [zB_f (p := y ≤ tBr P l) (Int32.not_le.mpr hc)], rfl⟩)
  · refine aw_iconst (v := 1) (q := 25) dX1_hasLight_24 rfl rfl ?_
    refine aw_goto (tgt := 29) dX1_hasLight_25 (by decide) ?_
    exact aw_ireturn dX1_hasLight_29 rfl (by first | rfl | exact zB_nar _) (⟨by rw [zB_t (p := y ≤ tBr P l) (Int32.not_lt.mp hc)], rfl⟩)
theorem C_hasLightN {y : Int32} (h : zPR G μ p o P A c) : Meets G 4 MX1_hasLight [.ref p, .int (-6), .int y] μ (zPure (.int 0) μ) 0 0 := by
  have hp := h.1
  refine meets_of (by decide +kernel) (Nat.le_of_ble_eq_true rfl) ?_
  refine aw_iload_n (i := 1) (q := 1) dX1_hasLight_0 rfl rfl rfl ?_
  refine aw_if_lt (tgt := 28) (q := 4) dX1_hasLight_1 (by decide) rfl (fun _ => ?_) (fun hZ => absurd ((by decide)) hZ)
  refine aw_iconst (v := 0) (q := 29) dX1_hasLight_28 rfl rfl ?_
  exact aw_ireturn dX1_hasLight_29 rfl (by first | rfl | exact zB_nar _) (⟨rfl, rfl⟩)
end ZPD
