/-! THE TWIN, part 13: layFree, nextRow, showsIn, sumOf, wouldBeSeen -/
set_option maxRecDepth 100000
theorem tRowF_lt (f : Nat → Int32) (s : Int32) : ∀ k, (∀ j, (tRowF f s k).1 = some j → j < k) ∧ (tRowF f s k).2 ≤ k - 1
  | 0 => ⟨fun j h => by (cases h), Nat.le_refl _⟩
  | k + 1 => by
    obtain ⟨h1, h2⟩ := tRowF_lt f s k
    refine ⟨fun j h => ?_, ?_⟩
    · unfold tRowF at h
      dsimp only at h
      split at h
      · cases h; omega
      · have := h1 j h; omega
    · unfold tRowF
      dsimp only
      split <;> omega
theorem tRowF_congr {f g : Nat → Int32} {s : Int32} : ∀ k, (∀ r, r < k → f r = g r) → tRowF f s k = tRowF g s k
  | 0, _ => rfl
  | k + 1, h => by
    have ih := tRowF_congr (f := f) (g := g) (s := s) k (fun r hr => h r (by omega))
    obtain ⟨l1, l2⟩ := tRowF_lt g s k
    unfold tRowF
    rw [ih, h k (by omega)]
    have e2 : f (tRowF g s k).2 = g (tRowF g s k).2 := h _ (by omega)
    have e1 : zLessR f (tRowF g s k).1 k = zLessR g (tRowF g s k).1 k := by
      cases hj : (tRowF g s k).1 with
      | none => rfl
      | some j => 
        show decide _ = decide _
        rw [h k (by omega), h j (by have := l1 j hj; omega)]
    rw [e1, e2]
theorem tRow_congr {f g : Nat → Int32} {s : Int32} (h : ∀ r, r < 8 → f r = g r) : tRow f s = tRow g s := by
  unfold tRow
  rw [tRowF_congr 8 h]
theorem tRow_lt (f : Nat → Int32) (s : Int32) : tRow f s < 8 := by
  obtain ⟨h1, h2⟩ := tRowF_lt f s 8
  unfold tRow
  split
  · omega
  · next j hj => exact h1 j hj
theorem zNo_lt {r : Option Nat} (h : ∀ j, r = some j → j < 2 ^ 31) : zNo r < 0 ↔ r = none := by
  cases r with
  | none => exact ⟨fun _ => rfl, fun _ => by show (-6 : Int32) < 0; decide⟩
  | some j => exact ⟨fun q => absurd q (Int32.not_lt.mpr (by have := nI_leI (a := 0) (b := j) (by omega) (h j rfl); exact this.mpr (by omega))), fun q => by cases q⟩
def tShowsIn (P : zP) (st : Int32) : Int32 := tSumR (fun s => if P 3 s 3 = st then 1 else 0) (pcn P 9)
def tSumOf (P : zP) (sh : Int32) (c : Nat) : Int32 := tSumR (fun b => if P 4 b 0 = sh then P 4 b c else 0) (pcn P 10)
abbrev tWD (P : zP) (p b : Nat) : Prop := P 4 b 4 = 0 ∧ P 4 b 2 = P 6 p 0 ∧ P 3 (tSh P b) 0 = P 6 p 1 ∧ P 3 (tSh P b) 1 ≤ P 6 p 3
def tWould (P : zP) (p : Nat) : Int32 := if P 6 p 4 = 0 then tSumR (fun b => if tWD P p b then P 4 b 1 else 0) (pcn P 10) else 0
section ZTW13
variable {G : zG} {μ : zM} {m : Nat} {lam : Nat → Nat} {K : Nat → Nat → Int32} {P : zP}
theorem C2_layFree {sh : Int32} (hT : zTP G μ m lam K P) : Meets G 3 MX2_layFree [.ref m, .int sh] μ (fun v μ' => v = none ∧ (∃ f : Nat → Int32, (∀ r, r < 8 → f r = tFreeIn P sh r) ∧ zTP G μ' m lam (setK K 7 f) P) ∧ zKp tTw μ μ') 0 0 := by
  have hm := hT.m
  refine meets_of (by decide +kernel) (Nat.le_of_ble_eq_true rfl) ?_
  refine aw_iconst (v := 0) (q := 1) dX2_layFree_0 rfl rfl ?_
  refine aw_istore_n (i := 2) (q := 2) dX2_layFree_1 rfl (by decide) rfl ?_
  have loop : ∀ n e, e + n = 8 → ∀ (μ1 : zM) (f : Nat → Int32), (∀ r, r < e → f r = tFreeIn P sh r) → zTP G μ1 m lam (setK K 7 f) P → zKp tTw μ μ1 → AW G 3 MX2_layFree (fun v μ' => v = none ∧ (∃ f : Nat → Int32, (∀ r, r < 8 → f r = tFreeIn P sh r) ∧ zTP G μ' m lam (setK K 7 f) P) ∧ zKp tTw μ μ') 0 0 2 [(0, .ref m), (1, .int sh), (2, .int (nI e))] [] μ1 := by
    intro n
    induction n with
    | zero =>
      intro e he μ1 f hf hT hk
      refine aw_iload_n (i := 2) (q := 3) dX2_layFree_2 rfl rfl rfl ?_
      refine aw_bipush (v := 8) (q := 5) dX2_layFree_3 rfl rfl ?_
      refine aw_icmp_ge (tgt := 26) (q := 8) dX2_layFree_5 (by decide) rfl (fun _ => ?_) (fun hc => absurd (nI_le (a := 8) (by omega) (by omega)) hc)
      exact aw_return dX2_layFree_26 rfl (⟨rfl, ⟨f, fun r hr => hf r (by omega), hT⟩, hk⟩)
    | succ n ih =>
      intro e he μ1 f hf hT hk
      have hm := hT.m
      have h7 := hT.a7
      refine aw_iload_n (i := 2) (q := 3) dX2_layFree_2 rfl rfl rfl ?_
      refine aw_bipush (v := 8) (q := 5) dX2_layFree_3 rfl rfl ?_
      refine aw_icmp_ge (tgt := 26) (q := 8) dX2_layFree_5 (by decide) rfl (fun hc => absurd hc (nI_ge (b := 8) (a := e) (by omega) (by omega))) (fun _ => ?_)
      first | refine aw_aload_n (i := 0) (q := 9) dX2_layFree_8 rfl rfl rfl ?_ | refine aw_aloadN_n (i := 0) (q := 9) dX2_layFree_8 rfl rfl rfl ?_ | refine aw_aloadQ_n (i := 0) (q := 9) dX2_layFree_8 rfl rfl rfl ?_
      refine aw_getfield (q := 12) dX2_layFree_9 gf_X2_29_2 (by assumption) rfl rfl ?_
      refine aw_iload_n (i := 2) (q := 13) dX2_layFree_12 rfl rfl rfl ?_
      first | refine aw_aload_n (i := 0) (q := 14) dX2_layFree_13 rfl rfl rfl ?_ | refine aw_aloadN_n (i := 0) (q := 14) dX2_layFree_13 rfl rfl rfl ?_ | refine aw_aloadQ_n (i := 0) (q := 14) dX2_layFree_13 rfl rfl rfl ?_
      refine aw_iload_n (i := 1) (q := 15) dX2_layFree_14 rfl rfl rfl ?_
      refine aw_iload_n (i := 2) (q := 16) dX2_layFree_15 rfl rfl rfl ?_
      refine aw_callV (q := 19) dX2_layFree_16 (C2_freeIn hT rfl (by omega)) cv_X2_91_2 (by assumption) rfl rfl (by decide) (by decide) (by first | exact Nat.le_of_ble_eq_true rfl | simp [zcat_rf, Value.category]) rfl (zpk ?_)
      refine aw_iast (q := 20) (e) dX2_layFree_19 h7 (by first | assumption | simp) (by first | assumption | (simp only [← nI_add, ← pk_mul]; rfl) | rfl) (by omega) (by omega) rfl (fun μ2 hg_μ2 => ?_)
      have h7 : μ2 _ = some _ := hg_μ2 ▸ updM_eq _ _ _
      obtain ⟨hT2, hk2⟩ := hT.1.st7 hg_μ2
      rw [setK_twice, setK_eq] at hT2
      refine aw_iinc (q := 23) dX2_layFree_20 rfl (by first | exact nI_1 _ | rfl) (by decide) rfl ?_
      refine aw_goto (tgt := 2) dX2_layFree_23 (by decide) ?_
      exact aw_locals (by exact ⟨rfl, rfl, rfl, trivial⟩) (ih (e + 1) (by omega) μ2 _ (fun r hr => by (by_cases er : r = e; (subst er; exact pk_us); (rw [pk_un er]; exact hf r (by omega)))) (hT.other hT2 (by rw [setK_ne (by decide), setK_ne (by decide)])) (hk.tr hk2))
  exact aw_locals (by exact ⟨rfl, rfl, rfl, trivial⟩) (loop 8 0 (by omega) μ (K 7) (fun r hr => by omega) (by rw [setK_self]; exact hT) zKp.rf)
theorem C2_nextRow {y : Int32} (hT : zTP G μ m lam K P) : Meets G 1 MX2_nextRow [.ref m, .int y] μ (zPure (.int (nI (tRow (K 7) y))) μ) 0 0 := by
  have hm := hT.m
  have h7 := hT.a7
  refine meets_of (by decide +kernel) (Nat.le_of_ble_eq_true rfl) ?_
  refine aw_bipush (v := (-6)) (q := 2) dX2_nextRow_0 rfl rfl ?_
  refine aw_istore_n (i := 2) (q := 3) dX2_nextRow_2 rfl (by decide) rfl ?_
  refine aw_iconst (v := 0) (q := 4) dX2_nextRow_3 rfl rfl ?_
  refine aw_istore_n (i := 3) (q := 5) dX2_nextRow_4 rfl (by decide) rfl ?_
  refine aw_iconst (v := 0) (q := 6) dX2_nextRow_5 rfl rfl ?_
  refine aw_istore (q := 8) dX2_nextRow_6 (by decide) rfl ?_
  have loop : ∀ n e, e + n = 8 → AW G 1 MX2_nextRow (zPure (.int (nI (tRow (K 7) y))) μ) 0 0 8 [(0, .ref m), (1, .int y), (2, .int (zNo (tRowF (K 7) y e).1)), (3, .int (nI (tRowF (K 7) y e).2)), (4, .int (nI e))] [] μ := by
    intro n
    induction n with
    | zero =>
      intro e he
      have e8 : e = 8 := by omega
      subst e8
      obtain ⟨l1, l2⟩ := tRowF_lt (K 7) y 8
      have hz := zNo_lt (r := (tRowF (K 7) y 8).1) (fun j hj => by have := l1 j hj; omega)
      have hr : tRow (K 7) y = (match (tRowF (K 7) y 8).1 with | none => (tRowF (K 7) y 8).2 | some j => j) := rfl
      generalize tRowF (K 7) y 8 = q at l1 l2 hz hr ⊢
      refine aw_iload (q := 10) dX2_nextRow_8 rfl rfl ?_
      refine aw_bipush (v := 8) (q := 12) dX2_nextRow_10 rfl rfl ?_
      refine aw_icmp_ge (tgt := 82) (q := 15) dX2_nextRow_12 (by decide) rfl (fun _ => ?_) (fun hc => absurd (nI_le (a := 8) (by omega) (by omega)) hc)
      refine aw_iload_n (i := 2) (q := 83) dX2_nextRow_82 rfl rfl rfl ?_
      refine aw_if_lt (tgt := 90) (q := 86) dX2_nextRow_83 (by decide) rfl (fun hc => ?_) (fun hc => ?_)
      · refine aw_iload_n (i := 3) (q := 91) dX2_nextRow_90 rfl rfl rfl ?_
        exact aw_ireturn dX2_nextRow_91 rfl (by first | rfl | exact zB_nar _) (by refine ⟨?_, rfl⟩; rw [hr, hz.mp hc])
      · refine aw_iload_n (i := 2) (q := 87) dX2_nextRow_86 rfl rfl rfl ?_
        refine aw_goto (tgt := 91) dX2_nextRow_87 (by decide) ?_
        exact aw_ireturn dX2_nextRow_91 rfl (by first | rfl | exact zB_nar _) (by refine ⟨?_, rfl⟩; (rw [hr]; cases hq : q.1 with | none => exact absurd (hz.mpr hq) hc | some j => rfl))
    | succ n ih =>
      intro e he
      obtain ⟨l1, l2⟩ := tRowF_lt (K 7) y e
      have hz := zNo_lt (r := (tRowF (K 7) y e).1) (fun j hj => by have := l1 j hj; omega)
      have second : ∀ r : Option Nat, r = (tRowF (K 7) y (e + 1)).1 → AW G 1 MX2_nextRow (zPure (.int (nI (tRow (K 7) y))) μ) 0 0 52 [(0, .ref m), (1, .int y), (2, .int (zNo (tRowF (K 7) y e).1)), (3, .int (nI (tRowF (K 7) y e).2)), (4, .int (nI e))] [.int (zNo r)] μ := by
        intro r hr
        refine aw_istore_n (i := 2) (q := 53) dX2_nextRow_52 rfl (by decide) rfl ?_
        first | refine aw_aload_n (i := 0) (q := 54) dX2_nextRow_53 rfl rfl rfl ?_ | refine aw_aloadN_n (i := 0) (q := 54) dX2_nextRow_53 rfl rfl rfl ?_ | refine aw_aloadQ_n (i := 0) (q := 54) dX2_nextRow_53 rfl rfl rfl ?_
        refine aw_getfield (q := 57) dX2_nextRow_54 gf_X2_29_2 (by assumption) rfl rfl ?_
        refine aw_iload (q := 59) dX2_nextRow_57 rfl rfl ?_
        refine aw_iald (q := 60) (v := K 7 e) (e) dX2_nextRow_59 (by assumption) (by first | assumption | (simp only [← nI_add, ← pk_mul]; rfl) | rfl) (by omega) (by omega) (rfl) rfl ?_
        first | refine aw_aload_n (i := 0) (q := 61) dX2_nextRow_60 rfl rfl rfl ?_ | refine aw_aloadN_n (i := 0) (q := 61) dX2_nextRow_60 rfl rfl rfl ?_ | refine aw_aloadQ_n (i := 0) (q := 61) dX2_nextRow_60 rfl rfl rfl ?_
        refine aw_getfield (q := 64) dX2_nextRow_61 gf_X2_29_2 (by assumption) rfl rfl ?_
        refine aw_iload_n (i := 3) (q := 65) dX2_nextRow_64 rfl rfl rfl ?_
        refine aw_iald (q := 66) (v := K 7 (tRowF (K 7) y e).2) ((tRowF (K 7) y e).2) dX2_nextRow_65 (by assumption) (by first | assumption | (simp only [← nI_add, ← pk_mul]; rfl) | rfl) (by omega) (by omega) (rfl) rfl ?_
        refine aw_icmp_le (tgt := 74) (q := 69) dX2_nextRow_66 (by decide) rfl (fun hb => ?_) (fun hb => ?_)
        · refine aw_iload_n (i := 3) (q := 75) dX2_nextRow_74 rfl rfl rfl ?_
          refine aw_istore_n (i := 3) (q := 76) dX2_nextRow_75 rfl (by decide) rfl ?_
          refine aw_iinc (q := 79) dX2_nextRow_76 rfl (by first | exact nI_1 _ | rfl) (by decide) rfl ?_
          refine aw_goto (tgt := 8) dX2_nextRow_79 (by decide) ?_
          exact aw_locals (by exact ⟨rfl, rfl, by rw [← hr]; rfl, by rw [show (tRowF (K 7) y (e + 1)).2 = (tRowF (K 7) y e).2 from if_neg (Int32.not_lt.mpr hb)]; rfl, rfl, trivial⟩) (ih (e + 1) (by omega))
        · refine aw_iload (q := 71) dX2_nextRow_69 rfl rfl ?_
          refine aw_goto (tgt := 75) dX2_nextRow_71 (by decide) ?_
          refine aw_istore_n (i := 3) (q := 76) dX2_nextRow_75 rfl (by decide) rfl ?_
          refine aw_iinc (q := 79) dX2_nextRow_76 rfl (by first | exact nI_1 _ | rfl) (by decide) rfl ?_
          refine aw_goto (tgt := 8) dX2_nextRow_79 (by decide) ?_
          exact aw_locals (by exact ⟨rfl, rfl, by rw [← hr]; rfl, by rw [show (tRowF (K 7) y (e + 1)).2 = e from if_pos (Int32.not_le.mp hb)]; rfl, rfl, trivial⟩) (ih (e + 1) (by omega))
      have hno : ¬ (y ≤ K 7 e ∧ zLessR (K 7) (tRowF (K 7) y e).1 e = true) → (tRowF (K 7) y e).1 = (tRowF (K 7) y (e + 1)).1 := fun h => Eq.symm (if_neg h)
      have hyes : (y ≤ K 7 e ∧ zLessR (K 7) (tRowF (K 7) y e).1 e = true) → some e = (tRowF (K 7) y (e + 1)).1 := fun h => Eq.symm (if_pos h)
      refine aw_iload (q := 10) dX2_nextRow_8 rfl rfl ?_
      refine aw_bipush (v := 8) (q := 12) dX2_nextRow_10 rfl rfl ?_
      refine aw_icmp_ge (tgt := 82) (q := 15) dX2_nextRow_12 (by decide) rfl (fun hc => absurd hc (nI_ge (b := 8) (a := e) (by omega) (by omega))) (fun _ => ?_)
      first | refine aw_aload_n (i := 0) (q := 16) dX2_nextRow_15 rfl rfl rfl ?_ | refine aw_aloadN_n (i := 0) (q := 16) dX2_nextRow_15 rfl rfl rfl ?_ | refine aw_aloadQ_n (i := 0) (q := 16) dX2_nextRow_15 rfl rfl rfl ?_
      refine aw_getfield (q := 19) dX2_nextRow_16 gf_X2_29_2 (by assumption) rfl rfl ?_
      refine aw_iload (q := 21) dX2_nextRow_19 rfl rfl ?_
      refine aw_iald (q := 22) (v := K 7 e) (e) dX2_nextRow_21 (by assumption) (by first | assumption | (simp only [← nI_add, ← pk_mul]; rfl) | rfl) (by omega) (by omega) (rfl) rfl ?_
      refine aw_iload_n (i := 1) (q := 23) dX2_nextRow_22 rfl rfl rfl ?_
      refine aw_icmp_lt (tgt := 51) (q := 26) dX2_nextRow_23 (by decide) rfl (fun hc => ?_) (fun hc => ?_)
      · refine aw_iload_n (i := 2) (q := 52) dX2_nextRow_51 rfl rfl rfl ?_
        exact aw_locals (by exact ⟨rfl, rfl, rfl, rfl, rfl, trivial⟩) (second _ (hno (fun h => absurd h.1 (Int32.not_le.mpr hc))))
      · refine aw_iload_n (i := 2) (q := 27) dX2_nextRow_26 rfl rfl rfl ?_
        refine aw_if_lt (tgt := 46) (q := 30) dX2_nextRow_27 (by decide) rfl (fun hd => ?_) (fun hd => ?_)
        · refine aw_iload (q := 48) dX2_nextRow_46 rfl rfl ?_
          refine aw_goto (tgt := 52) dX2_nextRow_48 (by decide) ?_
          exact aw_locals (by exact ⟨rfl, rfl, rfl, rfl, rfl, trivial⟩) (second (some e) (hyes ⟨Int32.not_lt.mp hc, by rw [hz.mp hd]; rfl⟩))
        · first | refine aw_aload_n (i := 0) (q := 31) dX2_nextRow_30 rfl rfl rfl ?_ | refine aw_aloadN_n (i := 0) (q := 31) dX2_nextRow_30 rfl rfl rfl ?_ | refine aw_aloadQ_n (i := 0) (q := 31) dX2_nextRow_30 rfl rfl rfl ?_
          refine aw_getfield (q := 34) dX2_nextRow_31 gf_X2_29_2 (by assumption) rfl rfl ?_
          refine aw_iload (q := 36) dX2_nextRow_34 rfl rfl ?_
          obtain ⟨j, hj⟩ : ∃ j, (tRowF (K 7) y e).1 = some j := by
            cases hq : (tRowF (K 7) y e).1 with
            | none => exact absurd (hz.mpr hq) hd
            | some j => exact ⟨j, rfl⟩
          have hj8 := l1 j hj
          have ej : zNo (tRowF (K 7) y e).1 = nI j := by rw [hj]; rfl
          rw [ej]
          refine aw_iald (q := 37) (v := K 7 e) (e) dX2_nextRow_36 (by assumption) (by first | assumption | (simp only [← nI_add, ← pk_mul]; rfl) | rfl) (by omega) (by omega) (rfl) rfl ?_
          first | refine aw_aload_n (i := 0) (q := 38) dX2_nextRow_37 rfl rfl rfl ?_ | refine aw_aloadN_n (i := 0) (q := 38) dX2_nextRow_37 rfl rfl rfl ?_ | refine aw_aloadQ_n (i := 0) (q := 38) dX2_nextRow_37 rfl rfl rfl ?_
          refine aw_getfield (q := 41) dX2_nextRow_38 gf_X2_29_2 (by assumption) rfl rfl ?_
          refine aw_iload_n (i := 2) (q := 42) dX2_nextRow_41 rfl rfl rfl ?_
          refine aw_iald (q := 43) (v := K 7 j) (j) dX2_nextRow_42 (by assumption) (by first | assumption | (simp only [← nI_add, ← pk_mul]; rfl) | rfl) (by omega) (by omega) (rfl) rfl ?_
          refine aw_icmp_ge (tgt := 51) (q := 46) dX2_nextRow_43 (by decide) rfl (fun hf => ?_) (fun hf => ?_)
          · refine aw_iload_n (i := 2) (q := 52) dX2_nextRow_51 rfl rfl rfl ?_
            rw [← ej]
            exact aw_locals (by exact ⟨rfl, rfl, rfl, rfl, rfl, trivial⟩) (second _ (hno (fun h => by rw [hj] at h; exact absurd (of_decide_eq_true h.2) (Int32.not_lt.mpr hf))))
          · refine aw_iload (q := 48) dX2_nextRow_46 rfl rfl ?_
            refine aw_goto (tgt := 52) dX2_nextRow_48 (by decide) ?_
            rw [← ej]
            exact aw_locals (by exact ⟨rfl, rfl, rfl, rfl, rfl, trivial⟩) (second (some e) (hyes ⟨Int32.not_lt.mp hc, by rw [hj]; exact decide_eq_true (Int32.not_le.mp hf)⟩))
  exact aw_locals (by exact ⟨rfl, rfl, rfl, rfl, rfl, trivial⟩) (loop 8 0 (by omega))
theorem C2_showsIn {y : Int32} (hT : zTP G μ m lam K P) : Meets G 2 MX2_showsIn [.ref m, .int y] μ (zPure (.int (tShowsIn P y)) μ) 0 0 := by
  have hm := hT.m
  have h1 := hT.a1
  obtain ⟨hn, hN⟩ := hT.2.2.s
  refine meets_of (by decide +kernel) (Nat.le_of_ble_eq_true rfl) ?_
  refine aw_iconst (v := 0) (q := 1) dX2_showsIn_0 rfl rfl ?_
  refine aw_istore_n (i := 2) (q := 2) dX2_showsIn_1 rfl (by decide) rfl ?_
  refine aw_iconst (v := 0) (q := 3) dX2_showsIn_2 rfl rfl ?_
  refine aw_istore_n (i := 3) (q := 4) dX2_showsIn_3 rfl (by decide) rfl ?_
  have loop : ∀ n e, e + n = pcn P 9 → AW G 2 MX2_showsIn (zPure (.int (tShowsIn P y)) μ) 0 0 4 [(0, .ref m), (1, .int y), (2, .int (tSumR (fun s => if P 3 s 3 = y then 1 else 0) e)), (3, .int (nI e))] [] μ := by
    intro n
    induction n with
    | zero =>
      intro e he
      refine aw_iload_n (i := 3) (q := 5) dX2_showsIn_4 rfl rfl rfl ?_
      first | refine aw_aload_n (i := 0) (q := 6) dX2_showsIn_5 rfl rfl rfl ?_ | refine aw_aloadN_n (i := 0) (q := 6) dX2_showsIn_5 rfl rfl rfl ?_ | refine aw_aloadQ_n (i := 0) (q := 6) dX2_showsIn_5 rfl rfl rfl ?_
      refine aw_getfield (q := 9) dX2_showsIn_6 gf_X2_7_2 (by assumption) rfl rfl ?_
      refine aw_bipush (v := 9) (q := 11) dX2_showsIn_9 rfl rfl ?_
      refine aw_iald (q := 12) (v := nI (pcn P 9)) (9) dX2_showsIn_11 (by assumption) (by first | assumption | (simp only [← nI_add, ← pk_mul]; rfl) | rfl) (by omega) (by omega) ((hT.2.1.g (by omega)).trans hn) rfl ?_
      refine aw_icmp_ge (tgt := 39) (q := 15) dX2_showsIn_12 (by decide) rfl (fun _ => ?_) (fun hc => absurd (nI_le (by omega) (by omega)) hc)
      refine aw_iload_n (i := 2) (q := 40) dX2_showsIn_39 rfl rfl rfl ?_
      exact aw_ireturn dX2_showsIn_40 rfl (by first | rfl | exact zB_nar _) (by refine ⟨?_, rfl⟩; rw [tShowsIn, show pcn P 9 = e by omega])
    | succ n ih =>
      intro e he
      have hlt : e < pcn P 9 := by omega
      refine aw_iload_n (i := 3) (q := 5) dX2_showsIn_4 rfl rfl rfl ?_
      first | refine aw_aload_n (i := 0) (q := 6) dX2_showsIn_5 rfl rfl rfl ?_ | refine aw_aloadN_n (i := 0) (q := 6) dX2_showsIn_5 rfl rfl rfl ?_ | refine aw_aloadQ_n (i := 0) (q := 6) dX2_showsIn_5 rfl rfl rfl ?_
      refine aw_getfield (q := 9) dX2_showsIn_6 gf_X2_7_2 (by assumption) rfl rfl ?_
      refine aw_bipush (v := 9) (q := 11) dX2_showsIn_9 rfl rfl ?_
      refine aw_iald (q := 12) (v := nI (pcn P 9)) (9) dX2_showsIn_11 (by assumption) (by first | assumption | (simp only [← nI_add, ← pk_mul]; rfl) | rfl) (by omega) (by omega) ((hT.2.1.g (by omega)).trans hn) rfl ?_
      refine aw_icmp_ge (tgt := 39) (q := 15) dX2_showsIn_12 (by decide) rfl (fun hc => absurd hc (nI_ge hlt (by omega))) (fun _ => ?_)
      refine aw_iload_n (i := 2) (q := 16) dX2_showsIn_15 rfl rfl rfl ?_
      first | refine aw_aload_n (i := 0) (q := 17) dX2_showsIn_16 rfl rfl rfl ?_ | refine aw_aloadN_n (i := 0) (q := 17) dX2_showsIn_16 rfl rfl rfl ?_ | refine aw_aloadQ_n (i := 0) (q := 17) dX2_showsIn_16 rfl rfl rfl ?_
      refine aw_iload_n (i := 3) (q := 18) dX2_showsIn_17 rfl rfl rfl ?_
      refine aw_iconst (v := 3) (q := 19) dX2_showsIn_18 rfl rfl ?_
      refine aw_callV (q := 22) dX2_showsIn_19 (C2_ofShow (c := 3) hT rfl rfl (by omega) (by omega)) cv_X2_75_2 (by assumption) rfl rfl (by decide) (by decide) (by first | exact Nat.le_of_ble_eq_true rfl | simp [zcat_rf, Value.category]) rfl (zpk ?_)
      refine aw_iload_n (i := 1) (q := 23) dX2_showsIn_22 rfl rfl rfl ?_
      refine aw_icmp_ne (tgt := 30) (q := 26) dX2_showsIn_23 (by decide) rfl (fun ha => ?_) (fun ha => ?_)
      · refine aw_iconst (v := 0) (q := 31) dX2_showsIn_30 rfl rfl ?_
        refine aw_iadd (q := 32) dX2_showsIn_31 rfl ?_
        refine aw_istore_n (i := 2) (q := 33) dX2_showsIn_32 rfl (by decide) rfl ?_
        refine aw_iinc (q := 36) dX2_showsIn_33 rfl (by first | exact nI_1 _ | rfl) (by decide) rfl ?_
        refine aw_goto (tgt := 4) dX2_showsIn_36 (by decide) ?_
        exact aw_locals (by exact ⟨rfl, rfl, by simp only [tSumR]; rw [if_neg ha]; rfl, rfl, trivial⟩) (ih (e + 1) (by omega))
      · refine aw_iconst (v := 1) (q := 27) dX2_showsIn_26 rfl rfl ?_
        refine aw_goto (tgt := 31) dX2_showsIn_27 (by decide) ?_
        refine aw_iadd (q := 32) dX2_showsIn_31 rfl ?_
        refine aw_istore_n (i := 2) (q := 33) dX2_showsIn_32 rfl (by decide) rfl ?_
        refine aw_iinc (q := 36) dX2_showsIn_33 rfl (by first | exact nI_1 _ | rfl) (by decide) rfl ?_
        refine aw_goto (tgt := 4) dX2_showsIn_36 (by decide) ?_
        exact aw_locals (by exact ⟨rfl, rfl, by simp only [tSumR]; rw [if_pos ha]; rfl, rfl, trivial⟩) (ih (e + 1) (by omega))
  exact aw_locals (by exact ⟨rfl, rfl, rfl, rfl, trivial⟩) (loop (pcn P 9) 0 (by omega))
theorem C2_sumOf {sh y : Int32} {c : Nat} (hT : zTP G μ m lam K P) (hy : y = nI c) (hc : c < 16) : Meets G 2 MX2_sumOf [.ref m, .int sh, .int y] μ (zPure (.int (tSumOf P sh c)) μ) 0 0 := by
  subst hy
  have hm := hT.m
  have h1 := hT.a1
  obtain ⟨hn, hN⟩ := hT.2.2.b
  refine meets_of (by decide +kernel) (Nat.le_of_ble_eq_true rfl) ?_
  refine aw_iconst (v := 0) (q := 1) dX2_sumOf_0 rfl rfl ?_
  refine aw_istore_n (i := 3) (q := 2) dX2_sumOf_1 rfl (by decide) rfl ?_
  refine aw_iconst (v := 0) (q := 3) dX2_sumOf_2 rfl rfl ?_
  refine aw_istore (q := 5) dX2_sumOf_3 (by decide) rfl ?_
  have loop : ∀ n e, e + n = pcn P 10 → AW G 2 MX2_sumOf (zPure (.int (tSumOf P sh c)) μ) 0 0 5 [(0, .ref m), (1, .int sh), (2, .int (nI c)), (3, .int (tSumR (fun b => if P 4 b 0 = sh then P 4 b c else 0) e)), (4, .int (nI e))] [] μ := by
    intro n
    induction n with
    | zero =>
      intro e he
      refine aw_iload (q := 7) dX2_sumOf_5 rfl rfl ?_
      first | refine aw_aload_n (i := 0) (q := 8) dX2_sumOf_7 rfl rfl rfl ?_ | refine aw_aloadN_n (i := 0) (q := 8) dX2_sumOf_7 rfl rfl rfl ?_ | refine aw_aloadQ_n (i := 0) (q := 8) dX2_sumOf_7 rfl rfl rfl ?_
      refine aw_getfield (q := 11) dX2_sumOf_8 gf_X2_7_2 (by assumption) rfl rfl ?_
      refine aw_bipush (v := 10) (q := 13) dX2_sumOf_11 rfl rfl ?_
      refine aw_iald (q := 14) (v := nI (pcn P 10)) (10) dX2_sumOf_13 (by assumption) (by first | assumption | (simp only [← nI_add, ← pk_mul]; rfl) | rfl) (by omega) (by omega) ((hT.2.1.g (by omega)).trans hn) rfl ?_
      refine aw_icmp_ge (tgt := 48) (q := 17) dX2_sumOf_14 (by decide) rfl (fun _ => ?_) (fun hc => absurd (nI_le (by omega) (by omega)) hc)
      refine aw_iload_n (i := 3) (q := 49) dX2_sumOf_48 rfl rfl rfl ?_
      exact aw_ireturn dX2_sumOf_49 rfl (by first | rfl | exact zB_nar _) (by refine ⟨?_, rfl⟩; rw [tSumOf, show pcn P 10 = e by omega])
    | succ n ih =>
      intro e he
      have hlt : e < pcn P 10 := by omega
      refine aw_iload (q := 7) dX2_sumOf_5 rfl rfl ?_
      first | refine aw_aload_n (i := 0) (q := 8) dX2_sumOf_7 rfl rfl rfl ?_ | refine aw_aloadN_n (i := 0) (q := 8) dX2_sumOf_7 rfl rfl rfl ?_ | refine aw_aloadQ_n (i := 0) (q := 8) dX2_sumOf_7 rfl rfl rfl ?_
      refine aw_getfield (q := 11) dX2_sumOf_8 gf_X2_7_2 (by assumption) rfl rfl ?_
      refine aw_bipush (v := 10) (q := 13) dX2_sumOf_11 rfl rfl ?_
      refine aw_iald (q := 14) (v := nI (pcn P 10)) (10) dX2_sumOf_13 (by assumption) (by first | assumption | (simp only [← nI_add, ← pk_mul]; rfl) | rfl) (by omega) (by omega) ((hT.2.1.g (by omega)).trans hn) rfl ?_
      refine aw_icmp_ge (tgt := 48) (q := 17) dX2_sumOf_14 (by decide) rfl (fun hc => absurd hc (nI_ge hlt (by omega))) (fun _ => ?_)
      refine aw_iload_n (i := 3) (q := 18) dX2_sumOf_17 rfl rfl rfl ?_
      first | refine aw_aload_n (i := 0) (q := 19) dX2_sumOf_18 rfl rfl rfl ?_ | refine aw_aloadN_n (i := 0) (q := 19) dX2_sumOf_18 rfl rfl rfl ?_ | refine aw_aloadQ_n (i := 0) (q := 19) dX2_sumOf_18 rfl rfl rfl ?_
      refine aw_iload (q := 21) dX2_sumOf_19 rfl rfl ?_
      refine aw_iconst (v := 0) (q := 22) dX2_sumOf_21 rfl rfl ?_
      refine aw_callV (q := 25) dX2_sumOf_22 (C2_ofBooking (c := 0) hT rfl rfl (by omega) (by omega)) cv_X2_88_2 (by assumption) rfl rfl (by decide) (by decide) (by first | exact Nat.le_of_ble_eq_true rfl | simp [zcat_rf, Value.category]) rfl (zpk ?_)
      refine aw_iload_n (i := 1) (q := 26) dX2_sumOf_25 rfl rfl rfl ?_
      refine aw_icmp_ne (tgt := 39) (q := 29) dX2_sumOf_26 (by decide) rfl (fun ha => ?_) (fun ha => ?_)
      · refine aw_iconst (v := 0) (q := 40) dX2_sumOf_39 rfl rfl ?_
        refine aw_iadd (q := 41) dX2_sumOf_40 rfl ?_
        refine aw_istore_n (i := 3) (q := 42) dX2_sumOf_41 rfl (by decide) rfl ?_
        refine aw_iinc (q := 45) dX2_sumOf_42 rfl (by first | exact nI_1 _ | rfl) (by decide) rfl ?_
        refine aw_goto (tgt := 5) dX2_sumOf_45 (by decide) ?_
        exact aw_locals (by exact ⟨rfl, rfl, rfl, by simp only [tSumR]; rw [if_neg ha]; rfl, rfl, trivial⟩) (ih (e + 1) (by omega))
      · first | refine aw_aload_n (i := 0) (q := 30) dX2_sumOf_29 rfl rfl rfl ?_ | refine aw_aloadN_n (i := 0) (q := 30) dX2_sumOf_29 rfl rfl rfl ?_ | refine aw_aloadQ_n (i := 0) (q := 30) dX2_sumOf_29 rfl rfl rfl ?_
        refine aw_iload (q := 32) dX2_sumOf_30 rfl rfl ?_
        refine aw_iload_n (i := 2) (q := 33) dX2_sumOf_32 rfl rfl rfl ?_
        refine aw_callV (q := 36) dX2_sumOf_33 (C2_ofBooking (c := c) hT rfl rfl (by omega) (by omega)) cv_X2_88_2 (by assumption) rfl rfl (by decide) (by decide) (by first | exact Nat.le_of_ble_eq_true rfl | simp [zcat_rf, Value.category]) rfl (zpk ?_)
        refine aw_goto (tgt := 40) dX2_sumOf_36 (by decide) ?_
        refine aw_iadd (q := 41) dX2_sumOf_40 rfl ?_
        refine aw_istore_n (i := 3) (q := 42) dX2_sumOf_41 rfl (by decide) rfl ?_
        refine aw_iinc (q := 45) dX2_sumOf_42 rfl (by first | exact nI_1 _ | rfl) (by decide) rfl ?_
        refine aw_goto (tgt := 5) dX2_sumOf_45 (by decide) ?_
        exact aw_locals (by exact ⟨rfl, rfl, rfl, by simp only [tSumR]; rw [if_pos ha]; rfl, rfl, trivial⟩) (ih (e + 1) (by omega))
  exact aw_locals (by exact ⟨rfl, rfl, rfl, rfl, rfl, trivial⟩) (loop (pcn P 10) 0 (by omega))
theorem C2_wouldBeSeen {p : Nat} {x : Int32} (hT : zTP G μ m lam K P) (hx : x = nI p) (hp : p < 12) (hB : tBkOk P) : Meets G 2 MX2_wouldBeSeen [.ref m, .int x] μ (zPure (.int (tWould P p)) μ) 0 0 := by
  subst hx
  have hm := hT.m
  have h1 := hT.a1
  obtain ⟨hn, hN⟩ := hT.2.2.b
  have hsN := hT.2.2.s.2
  refine meets_of (by decide +kernel) (Nat.le_of_ble_eq_true rfl) ?_
  refine aw_sipush (v := 1860) (q := 3) dX2_wouldBeSeen_0 rfl rfl ?_
  refine aw_bipush (v := 10) (q := 5) dX2_wouldBeSeen_3 rfl rfl ?_
  refine aw_iload_n (i := 1) (q := 6) dX2_wouldBeSeen_5 rfl rfl rfl ?_
  refine aw_imul (q := 7) dX2_wouldBeSeen_6 rfl ?_
  refine aw_iadd (q := 8) dX2_wouldBeSeen_7 rfl ?_
  refine aw_istore_n (i := 2) (q := 9) dX2_wouldBeSeen_8 rfl (by decide) rfl ?_
  refine aw_iconst (v := 0) (q := 10) dX2_wouldBeSeen_9 rfl rfl ?_
  refine aw_istore_n (i := 3) (q := 11) dX2_wouldBeSeen_10 rfl (by decide) rfl ?_
  refine aw_iconst (v := 0) (q := 12) dX2_wouldBeSeen_11 rfl rfl ?_
  refine aw_istore (q := 14) dX2_wouldBeSeen_12 (by decide) rfl ?_
  by_cases h4 : P 6 p 4 = 0
  · have loop : ∀ n e, e + n = pcn P 10 → ∀ u w : Value, AW G 2 MX2_wouldBeSeen (zPure (.int (tWould P p)) μ) 0 0 14 [(0, .ref m), (1, .int (nI p)), (2, .int (1860 + 10 * nI p)), (3, .int (tSumR (fun b => if tWD P p b then P 4 b 1 else 0) e)), (4, .int (nI e))] [] μ := by
      intro n
      induction n with
      | zero =>
        intro e he u w
        refine aw_iload (q := 16) dX2_wouldBeSeen_14 rfl rfl ?_
        first | refine aw_aload_n (i := 0) (q := 17) dX2_wouldBeSeen_16 rfl rfl rfl ?_ | refine aw_aloadN_n (i := 0) (q := 17) dX2_wouldBeSeen_16 rfl rfl rfl ?_ | refine aw_aloadQ_n (i := 0) (q := 17) dX2_wouldBeSeen_16 rfl rfl rfl ?_
        refine aw_getfield (q := 20) dX2_wouldBeSeen_17 gf_X2_7_2 (by assumption) rfl rfl ?_
        refine aw_bipush (v := 10) (q := 22) dX2_wouldBeSeen_20 rfl rfl ?_
        refine aw_iald (q := 23) (v := nI (pcn P 10)) (10) dX2_wouldBeSeen_22 (by assumption) (by first | assumption | (simp only [← nI_add, ← pk_mul]; rfl) | rfl) (by omega) (by omega) ((hT.2.1.g (by omega)).trans hn) rfl ?_
        refine aw_icmp_ge (tgt := 140) (q := 26) dX2_wouldBeSeen_23 (by decide) rfl (fun _ => ?_) (fun hc => absurd (nI_le (by omega) (by omega)) hc)
        refine aw_iload_n (i := 3) (q := 141) dX2_wouldBeSeen_140 rfl rfl rfl ?_
        exact aw_ireturn dX2_wouldBeSeen_141 rfl (by first | rfl | exact zB_nar _) (by refine ⟨?_, rfl⟩; rw [tWould, if_pos h4, show pcn P 10 = e by omega])
      | succ n ih =>
        intro e he u w
        have hlt : e < pcn P 10 := by omega
        obtain ⟨hs, hs2⟩ := hB e hlt
        have no : ¬ tWD P p e → AW G 2 MX2_wouldBeSeen (zPure (.int (tWould P p)) μ) 0 0 113 [(0, .ref m), (1, .int (nI p)), (2, .int (1860 + 10 * nI p)), (3, .int (tSumR (fun b => if tWD P p b then P 4 b 1 else 0) e)), (4, .int (nI e)), (5, .int (nI (tSh P e)))] [.int 0] μ := by
          intro hno
          refine aw_istore (q := 115) dX2_wouldBeSeen_113 (by decide) rfl ?_
          refine aw_iload_n (i := 3) (q := 116) dX2_wouldBeSeen_115 rfl rfl rfl ?_
          refine aw_iload (q := 118) dX2_wouldBeSeen_116 rfl rfl ?_
          refine aw_if_eq (tgt := 131) (q := 121) dX2_wouldBeSeen_118 (by decide) rfl (fun _ => ?_) (fun hc => absurd (rfl) hc)
          refine aw_iconst (v := 0) (q := 132) dX2_wouldBeSeen_131 rfl rfl ?_
          refine aw_iadd (q := 133) dX2_wouldBeSeen_132 rfl ?_
          refine aw_istore_n (i := 3) (q := 134) dX2_wouldBeSeen_133 rfl (by decide) rfl ?_
          refine aw_iinc (q := 137) dX2_wouldBeSeen_134 rfl (by first | exact nI_1 _ | rfl) (by decide) rfl ?_
          refine aw_goto (tgt := 14) dX2_wouldBeSeen_137 (by decide) ?_
          exact aw_locals (by exact ⟨rfl, rfl, rfl, by simp only [tSumR]; rw [if_neg hno]; rfl, rfl, trivial⟩) (ih (e + 1) (by omega) u w)
        refine aw_iload (q := 16) dX2_wouldBeSeen_14 rfl rfl ?_
        first | refine aw_aload_n (i := 0) (q := 17) dX2_wouldBeSeen_16 rfl rfl rfl ?_ | refine aw_aloadN_n (i := 0) (q := 17) dX2_wouldBeSeen_16 rfl rfl rfl ?_ | refine aw_aloadQ_n (i := 0) (q := 17) dX2_wouldBeSeen_16 rfl rfl rfl ?_
        refine aw_getfield (q := 20) dX2_wouldBeSeen_17 gf_X2_7_2 (by assumption) rfl rfl ?_
        refine aw_bipush (v := 10) (q := 22) dX2_wouldBeSeen_20 rfl rfl ?_
        refine aw_iald (q := 23) (v := nI (pcn P 10)) (10) dX2_wouldBeSeen_22 (by assumption) (by first | assumption | (simp only [← nI_add, ← pk_mul]; rfl) | rfl) (by omega) (by omega) ((hT.2.1.g (by omega)).trans hn) rfl ?_
        refine aw_icmp_ge (tgt := 140) (q := 26) dX2_wouldBeSeen_23 (by decide) rfl (fun hc => absurd hc (nI_ge hlt (by omega))) (fun _ => ?_)
        first | refine aw_aload_n (i := 0) (q := 27) dX2_wouldBeSeen_26 rfl rfl rfl ?_ | refine aw_aloadN_n (i := 0) (q := 27) dX2_wouldBeSeen_26 rfl rfl rfl ?_ | refine aw_aloadQ_n (i := 0) (q := 27) dX2_wouldBeSeen_26 rfl rfl rfl ?_
        refine aw_getfield (q := 30) dX2_wouldBeSeen_27 gf_X2_7_2 (by assumption) rfl rfl ?_
        refine aw_iload_n (i := 2) (q := 31) dX2_wouldBeSeen_30 rfl rfl rfl ?_
        refine aw_iconst (v := 4) (q := 32) dX2_wouldBeSeen_31 rfl rfl ?_
        refine aw_iadd (q := 33) dX2_wouldBeSeen_32 rfl ?_
        refine aw_iald (q := 34) (v := P 6 p 4) (1860 + 10 * p + 4) dX2_wouldBeSeen_33 (by assumption) (by first | assumption | (simp only [← nI_add, ← pk_mul]; rfl) | rfl) (by omega) (by omega) (hT.2.1.pr (by omega) (by omega)) rfl ?_
        refine aw_if_ne (tgt := 140) (q := 37) dX2_wouldBeSeen_34 (by decide) rfl (fun hc => absurd (h4) hc) (fun _ => ?_)
        first | refine aw_aload_n (i := 0) (q := 38) dX2_wouldBeSeen_37 rfl rfl rfl ?_ | refine aw_aloadN_n (i := 0) (q := 38) dX2_wouldBeSeen_37 rfl rfl rfl ?_ | refine aw_aloadQ_n (i := 0) (q := 38) dX2_wouldBeSeen_37 rfl rfl rfl ?_
        refine aw_iload (q := 40) dX2_wouldBeSeen_38 rfl rfl ?_
        refine aw_iconst (v := 0) (q := 41) dX2_wouldBeSeen_40 rfl rfl ?_
        refine aw_callV (q := 44) dX2_wouldBeSeen_41 (C2_ofBooking (c := 0) hT rfl rfl (by omega) (by omega)) cv_X2_88_2 (by assumption) rfl rfl (by decide) (by decide) (by first | exact Nat.le_of_ble_eq_true rfl | simp [zcat_rf, Value.category]) rfl (zpk ?_)
        rw [hs]
        refine aw_istore (q := 46) dX2_wouldBeSeen_44 (by decide) rfl ?_
        first | refine aw_aload_n (i := 0) (q := 47) dX2_wouldBeSeen_46 rfl rfl rfl ?_ | refine aw_aloadN_n (i := 0) (q := 47) dX2_wouldBeSeen_46 rfl rfl rfl ?_ | refine aw_aloadQ_n (i := 0) (q := 47) dX2_wouldBeSeen_46 rfl rfl rfl ?_
        refine aw_iload (q := 49) dX2_wouldBeSeen_47 rfl rfl ?_
        refine aw_iconst (v := 4) (q := 50) dX2_wouldBeSeen_49 rfl rfl ?_
        refine aw_callV (q := 53) dX2_wouldBeSeen_50 (C2_ofBooking (c := 4) hT rfl rfl (by omega) (by omega)) cv_X2_88_2 (by assumption) rfl rfl (by decide) (by decide) (by first | exact Nat.le_of_ble_eq_true rfl | simp [zcat_rf, Value.category]) rfl (zpk ?_)
        refine aw_if_ne (tgt := 112) (q := 56) dX2_wouldBeSeen_53 (by decide) rfl (fun ha => ?_) (fun ha => ?_)
        · refine aw_iconst (v := 0) (q := 113) dX2_wouldBeSeen_112 rfl rfl ?_
          exact aw_locals (by exact ⟨rfl, rfl, rfl, rfl, rfl, rfl, trivial⟩) (no (fun h => ha h.1))
        · first | refine aw_aload_n (i := 0) (q := 57) dX2_wouldBeSeen_56 rfl rfl rfl ?_ | refine aw_aloadN_n (i := 0) (q := 57) dX2_wouldBeSeen_56 rfl rfl rfl ?_ | refine aw_aloadQ_n (i := 0) (q := 57) dX2_wouldBeSeen_56 rfl rfl rfl ?_
          refine aw_iload (q := 59) dX2_wouldBeSeen_57 rfl rfl ?_
          refine aw_iconst (v := 2) (q := 60) dX2_wouldBeSeen_59 rfl rfl ?_
          refine aw_callV (q := 63) dX2_wouldBeSeen_60 (C2_ofBooking (c := 2) hT rfl rfl (by omega) (by omega)) cv_X2_88_2 (by assumption) rfl rfl (by decide) (by decide) (by first | exact Nat.le_of_ble_eq_true rfl | simp [zcat_rf, Value.category]) rfl (zpk ?_)
          first | refine aw_aload_n (i := 0) (q := 64) dX2_wouldBeSeen_63 rfl rfl rfl ?_ | refine aw_aloadN_n (i := 0) (q := 64) dX2_wouldBeSeen_63 rfl rfl rfl ?_ | refine aw_aloadQ_n (i := 0) (q := 64) dX2_wouldBeSeen_63 rfl rfl rfl ?_
          refine aw_getfield (q := 67) dX2_wouldBeSeen_64 gf_X2_7_2 (by assumption) rfl rfl ?_
          refine aw_iload_n (i := 2) (q := 68) dX2_wouldBeSeen_67 rfl rfl rfl ?_
          refine aw_iald (q := 69) (v := P 6 p 0) (1860 + 10 * p) dX2_wouldBeSeen_68 (by assumption) (by first | assumption | (simp only [← nI_add, ← pk_mul]; rfl) | rfl) (by omega) (by omega) (hT.2.1.pr (c := 0) (by omega) (by omega)) rfl ?_
          refine aw_icmp_ne (tgt := 112) (q := 72) dX2_wouldBeSeen_69 (by decide) rfl (fun hb => ?_) (fun hb => ?_)
          · refine aw_iconst (v := 0) (q := 113) dX2_wouldBeSeen_112 rfl rfl ?_
            exact aw_locals (by exact ⟨rfl, rfl, rfl, rfl, rfl, rfl, trivial⟩) (no (fun h => hb h.2.1))
          · first | refine aw_aload_n (i := 0) (q := 73) dX2_wouldBeSeen_72 rfl rfl rfl ?_ | refine aw_aloadN_n (i := 0) (q := 73) dX2_wouldBeSeen_72 rfl rfl rfl ?_ | refine aw_aloadQ_n (i := 0) (q := 73) dX2_wouldBeSeen_72 rfl rfl rfl ?_
            refine aw_iload (q := 75) dX2_wouldBeSeen_73 rfl rfl ?_
            refine aw_iconst (v := 0) (q := 76) dX2_wouldBeSeen_75 rfl rfl ?_
            refine aw_callV (q := 79) dX2_wouldBeSeen_76 (C2_ofShow (s := tSh P e) (c := 0) hT rfl rfl (by omega) (by omega)) cv_X2_75_2 (by assumption) rfl rfl (by decide) (by decide) (by first | exact Nat.le_of_ble_eq_true rfl | simp [zcat_rf, Value.category]) rfl (zpk ?_)
            first | refine aw_aload_n (i := 0) (q := 80) dX2_wouldBeSeen_79 rfl rfl rfl ?_ | refine aw_aloadN_n (i := 0) (q := 80) dX2_wouldBeSeen_79 rfl rfl rfl ?_ | refine aw_aloadQ_n (i := 0) (q := 80) dX2_wouldBeSeen_79 rfl rfl rfl ?_
            refine aw_getfield (q := 83) dX2_wouldBeSeen_80 gf_X2_7_2 (by assumption) rfl rfl ?_
            refine aw_iload_n (i := 2) (q := 84) dX2_wouldBeSeen_83 rfl rfl rfl ?_
            refine aw_iconst (v := 1) (q := 85) dX2_wouldBeSeen_84 rfl rfl ?_
            refine aw_iadd (q := 86) dX2_wouldBeSeen_85 rfl ?_
            refine aw_iald (q := 87) (v := P 6 p 1) (1860 + 10 * p + 1) dX2_wouldBeSeen_86 (by assumption) (by first | assumption | (simp only [← nI_add, ← pk_mul]; rfl) | rfl) (by omega) (by omega) (hT.2.1.pr (by omega) (by omega)) rfl ?_
            refine aw_icmp_ne (tgt := 112) (q := 90) dX2_wouldBeSeen_87 (by decide) rfl (fun hc => ?_) (fun hc => ?_)
            · refine aw_iconst (v := 0) (q := 113) dX2_wouldBeSeen_112 rfl rfl ?_
              exact aw_locals (by exact ⟨rfl, rfl, rfl, rfl, rfl, rfl, trivial⟩) (no (fun h => hc h.2.2.1))
            · first | refine aw_aload_n (i := 0) (q := 91) dX2_wouldBeSeen_90 rfl rfl rfl ?_ | refine aw_aloadN_n (i := 0) (q := 91) dX2_wouldBeSeen_90 rfl rfl rfl ?_ | refine aw_aloadQ_n (i := 0) (q := 91) dX2_wouldBeSeen_90 rfl rfl rfl ?_
              refine aw_iload (q := 93) dX2_wouldBeSeen_91 rfl rfl ?_
              refine aw_iconst (v := 1) (q := 94) dX2_wouldBeSeen_93 rfl rfl ?_
              refine aw_callV (q := 97) dX2_wouldBeSeen_94 (C2_ofShow (s := tSh P e) (c := 1) hT rfl rfl (by omega) (by omega)) cv_X2_75_2 (by assumption) rfl rfl (by decide) (by decide) (by first | exact Nat.le_of_ble_eq_true rfl | simp [zcat_rf, Value.category]) rfl (zpk ?_)
              first | refine aw_aload_n (i := 0) (q := 98) dX2_wouldBeSeen_97 rfl rfl rfl ?_ | refine aw_aloadN_n (i := 0) (q := 98) dX2_wouldBeSeen_97 rfl rfl rfl ?_ | refine aw_aloadQ_n (i := 0) (q := 98) dX2_wouldBeSeen_97 rfl rfl rfl ?_
              refine aw_getfield (q := 101) dX2_wouldBeSeen_98 gf_X2_7_2 (by assumption) rfl rfl ?_
              refine aw_iload_n (i := 2) (q := 102) dX2_wouldBeSeen_101 rfl rfl rfl ?_
              refine aw_iconst (v := 3) (q := 103) dX2_wouldBeSeen_102 rfl rfl ?_
              refine aw_iadd (q := 104) dX2_wouldBeSeen_103 rfl ?_
              refine aw_iald (q := 105) (v := P 6 p 3) (1860 + 10 * p + 3) dX2_wouldBeSeen_104 (by assumption) (by first | assumption | (simp only [← nI_add, ← pk_mul]; rfl) | rfl) (by omega) (by omega) (hT.2.1.pr (by omega) (by omega)) rfl ?_
              refine aw_icmp_gt (tgt := 112) (q := 108) dX2_wouldBeSeen_105 (by decide) rfl (fun hd => ?_) (fun hd => ?_)
              · refine aw_iconst (v := 0) (q := 113) dX2_wouldBeSeen_112 rfl rfl ?_
                exact aw_locals (by exact ⟨rfl, rfl, rfl, rfl, rfl, rfl, trivial⟩) (no (fun h => absurd h.2.2.2 (Int32.not_le.mpr hd)))
              · refine aw_iconst (v := 1) (q := 109) dX2_wouldBeSeen_108 rfl rfl ?_
                refine aw_goto (tgt := 113) dX2_wouldBeSeen_109 (by decide) ?_
                refine aw_istore (q := 115) dX2_wouldBeSeen_113 (by decide) rfl ?_
                refine aw_iload_n (i := 3) (q := 116) dX2_wouldBeSeen_115 rfl rfl rfl ?_
                refine aw_iload (q := 118) dX2_wouldBeSeen_116 rfl rfl ?_
                refine aw_if_eq (tgt := 131) (q := 121) dX2_wouldBeSeen_118 (by decide) rfl (fun hc => absurd hc ((by decide))) (fun _ => ?_)
                first | refine aw_aload_n (i := 0) (q := 122) dX2_wouldBeSeen_121 rfl rfl rfl ?_ | refine aw_aloadN_n (i := 0) (q := 122) dX2_wouldBeSeen_121 rfl rfl rfl ?_ | refine aw_aloadQ_n (i := 0) (q := 122) dX2_wouldBeSeen_121 rfl rfl rfl ?_
                refine aw_iload (q := 124) dX2_wouldBeSeen_122 rfl rfl ?_
                refine aw_iconst (v := 1) (q := 125) dX2_wouldBeSeen_124 rfl rfl ?_
                refine aw_callV (q := 128) dX2_wouldBeSeen_125 (C2_ofBooking (c := 1) hT rfl rfl (by omega) (by omega)) cv_X2_88_2 (by assumption) rfl rfl (by decide) (by decide) (by first | exact Nat.le_of_ble_eq_true rfl | simp [zcat_rf, Value.category]) rfl (zpk ?_)
                refine aw_goto (tgt := 132) dX2_wouldBeSeen_128 (by decide) ?_
                refine aw_iadd (q := 133) dX2_wouldBeSeen_132 rfl ?_
                refine aw_istore_n (i := 3) (q := 134) dX2_wouldBeSeen_133 rfl (by decide) rfl ?_
                refine aw_iinc (q := 137) dX2_wouldBeSeen_134 rfl (by first | exact nI_1 _ | rfl) (by decide) rfl ?_
                refine aw_goto (tgt := 14) dX2_wouldBeSeen_137 (by decide) ?_
                exact aw_locals (by exact ⟨rfl, rfl, rfl, by simp only [tSumR]; rw [if_pos ⟨ha, hb, hc, Int32.not_lt.mp hd⟩]; rfl, rfl, trivial⟩) (ih (e + 1) (by omega) u w)
    exact aw_locals (by exact ⟨rfl, rfl, rfl, rfl, rfl, trivial⟩) (loop (pcn P 10) 0 (by omega) .null .null)
  · skip
    by_cases h0 : pcn P 10 = 0
    · skip
      refine aw_iload (q := 16) dX2_wouldBeSeen_14 rfl rfl ?_
      first | refine aw_aload_n (i := 0) (q := 17) dX2_wouldBeSeen_16 rfl rfl rfl ?_ | refine aw_aloadN_n (i := 0) (q := 17) dX2_wouldBeSeen_16 rfl rfl rfl ?_ | refine aw_aloadQ_n (i := 0) (q := 17) dX2_wouldBeSeen_16 rfl rfl rfl ?_
      refine aw_getfield (q := 20) dX2_wouldBeSeen_17 gf_X2_7_2 (by assumption) rfl rfl ?_
      refine aw_bipush (v := 10) (q := 22) dX2_wouldBeSeen_20 rfl rfl ?_
      refine aw_iald (q := 23) (v := nI (pcn P 10)) (10) dX2_wouldBeSeen_22 (by assumption) (by first | assumption | (simp only [← nI_add, ← pk_mul]; rfl) | rfl) (by omega) (by omega) ((hT.2.1.g (by omega)).trans hn) rfl ?_
      refine aw_icmp_ge (tgt := 140) (q := 26) dX2_wouldBeSeen_23 (by decide) rfl (fun _ => ?_) (fun hc => absurd (nI_le (a := pcn P 10) (b := 0) (by omega) (by omega)) hc)
      refine aw_iload_n (i := 3) (q := 141) dX2_wouldBeSeen_140 rfl rfl rfl ?_
      exact aw_ireturn dX2_wouldBeSeen_141 rfl (by first | rfl | exact zB_nar _) (by refine ⟨?_, rfl⟩; rw [tWould, if_neg h4])
    · skip
      refine aw_iload (q := 16) dX2_wouldBeSeen_14 rfl rfl ?_
      first | refine aw_aload_n (i := 0) (q := 17) dX2_wouldBeSeen_16 rfl rfl rfl ?_ | refine aw_aloadN_n (i := 0) (q := 17) dX2_wouldBeSeen_16 rfl rfl rfl ?_ | refine aw_aloadQ_n (i := 0) (q := 17) dX2_wouldBeSeen_16 rfl rfl rfl ?_
      refine aw_getfield (q := 20) dX2_wouldBeSeen_17 gf_X2_7_2 (by assumption) rfl rfl ?_
      refine aw_bipush (v := 10) (q := 22) dX2_wouldBeSeen_20 rfl rfl ?_
      refine aw_iald (q := 23) (v := nI (pcn P 10)) (10) dX2_wouldBeSeen_22 (by assumption) (by first | assumption | (simp only [← nI_add, ← pk_mul]; rfl) | rfl) (by omega) (by omega) ((hT.2.1.g (by omega)).trans hn) rfl ?_
      refine aw_icmp_ge (tgt := 140) (q := 26) dX2_wouldBeSeen_23 (by decide) rfl (fun hc => absurd hc (nI_ge (a := 0) (by omega) (by omega))) (fun _ => ?_)
      first | refine aw_aload_n (i := 0) (q := 27) dX2_wouldBeSeen_26 rfl rfl rfl ?_ | refine aw_aloadN_n (i := 0) (q := 27) dX2_wouldBeSeen_26 rfl rfl rfl ?_ | refine aw_aloadQ_n (i := 0) (q := 27) dX2_wouldBeSeen_26 rfl rfl rfl ?_
      refine aw_getfield (q := 30) dX2_wouldBeSeen_27 gf_X2_7_2 (by assumption) rfl rfl ?_
      refine aw_iload_n (i := 2) (q := 31) dX2_wouldBeSeen_30 rfl rfl rfl ?_
      refine aw_iconst (v := 4) (q := 32) dX2_wouldBeSeen_31 rfl rfl ?_
      refine aw_iadd (q := 33) dX2_wouldBeSeen_32 rfl ?_
      refine aw_iald (q := 34) (v := P 6 p 4) (1860 + 10 * p + 4) dX2_wouldBeSeen_33 (by assumption) (by first | assumption | (simp only [← nI_add, ← pk_mul]; rfl) | rfl) (by omega) (by omega) (hT.2.1.pr (by omega) (by omega)) rfl ?_
      refine aw_if_ne (tgt := 140) (q := 37) dX2_wouldBeSeen_34 (by decide) rfl (fun _ => ?_) (fun hc => absurd hc (h4))
      refine aw_iload_n (i := 3) (q := 141) dX2_wouldBeSeen_140 rfl rfl rfl ?_
      exact aw_ireturn dX2_wouldBeSeen_141 rfl (by first | rfl | exact zB_nar _) (by refine ⟨?_, rfl⟩; rw [tWould, if_neg h4])
end ZTW13
