/-! THE TWIN, part 30: layOrder, doesFor, leastLife -/
set_option maxRecDepth 100000
/-- a show's time -/
def tTm (P : zP) (s : Nat) : Nat := 6 * (P 3 s 1).toNatClampNeg + (P 3 s 2).toNatClampNeg
theorem tTm_eq {P : zP} (h : tTimes P) {s : Nat} (hs : s < pcn P 9) : 6 * P 3 s 1 + P 3 s 2 = nI (tTm P s) ∧ tTm P s < 6600 := by
  obtain ⟨⟨d, hd, ed⟩, c, hc, ec⟩ := h.1 s hs
  unfold tTm
  rw [ed, ec, nI_clamp (by omega), nI_clamp (by omega), show (6 : Int32) * nI d = nI (6 * d) from pk_mul 6 d, nI_add]
  exact ⟨rfl, by omega⟩
/-- the planned shows in the order of their times -/
def tIsOrd (P : zP) (l : List Nat) : Prop := l.length ≤ 60 ∧ (∀ i j, i < j → j < l.length → tTm P (l.getD i 0) < tTm P (l.getD j 0)) ∧ ∀ s, (s < pcn P 9 ∧ P 3 s 3 = 0) ↔ ∃ i, i < l.length ∧ l.getD i 0 = s
/-- the next planned show at time t or later, among the first n -/
def tNxN (P : zP) (t : Nat) : Nat → Option Nat
  | 0 => none
  | s + 1 => if P 3 s 3 = 0 ∧ t ≤ tTm P s ∧ (match tNxN P t s with
    | none => true
    | some j => decide (tTm P s < tTm P j)) = true then some s else tNxN P t s
theorem tNxN_spec {P : zP} {t : Nat} : ∀ n, (∀ j, tNxN P t n = some j → j < n ∧ P 3 j 3 = 0 ∧ t ≤ tTm P j ∧ ∀ s, s < n → P 3 s 3 = 0 → t ≤ tTm P s → tTm P j ≤ tTm P s) ∧ (tNxN P t n = none → ∀ s, s < n → P 3 s 3 = 0 → ¬ t ≤ tTm P s)
  | 0 => ⟨fun j h => by (cases h), fun _ s hs => by omega⟩
  | n + 1 => by
    obtain ⟨h1, h2⟩ := tNxN_spec (P := P) (t := t) n
    unfold tNxN
    cases hq : tNxN P t n with
    | none =>
      have h2 := h2 hq
      by_cases hc : P 3 n 3 = 0 ∧ t ≤ tTm P n
      · rw [if_pos ⟨hc.1, hc.2, rfl⟩]
        refine ⟨fun j hj => ?_, fun h => by (cases h)⟩
        cases hj
        refine ⟨by omega, hc.1, hc.2, fun s hs h3 h4 => ?_⟩
        by_cases e : s = n
        · rw [e]; exact Nat.le_refl _
        · exact absurd h4 (h2 s (by omega) h3)
      · rw [if_neg (fun h => hc ⟨h.1, h.2.1⟩)]
        refine ⟨fun j hj => by (cases hj), fun _ s hs h3 h4 => ?_⟩
        by_cases e : s = n
        · subst e; exact hc ⟨h3, h4⟩
        · exact h2 s (by omega) h3 h4
    | some k =>
      obtain ⟨k1, k2, k3, k4⟩ := h1 k hq
      by_cases hc : P 3 n 3 = 0 ∧ t ≤ tTm P n ∧ tTm P n < tTm P k
      · rw [if_pos ⟨hc.1, hc.2.1, decide_eq_true hc.2.2⟩]
        refine ⟨fun j hj => ?_, fun h => by (cases h)⟩
        cases hj
        refine ⟨by omega, hc.1, hc.2.1, fun s hs h3 h4 => ?_⟩
        by_cases e : s = n
        · rw [e]; exact Nat.le_refl _
        · have := k4 s (by omega) h3 h4; omega
      · rw [if_neg (fun h => hc ⟨h.1, h.2.1, of_decide_eq_true h.2.2⟩)]
        refine ⟨fun j hj => ?_, fun h => by (cases h)⟩
        cases hj
        refine ⟨by omega, k2, k3, fun s hs h3 h4 => ?_⟩
        by_cases e : s = n
        · subst e
          have : ¬ tTm P s < tTm P k := fun q => hc ⟨h3, h4, q⟩
          omega
        · exact k4 s (by omega) h3 h4
/-- the next after the k-th is the (k+1)-th -/
theorem tNx_ord {P : zP} {l : List Nat} (hl : tIsOrd P l) {k t : Nat} (hk : k ≤ l.length) (ht : (∀ i, i < k → tTm P (l.getD i 0) < t) ∧ ∀ i, k ≤ i → i < l.length → t ≤ tTm P (l.getD i 0)) : tNxN P t (pcn P 9) = if k < l.length then some (l.getD k 0) else none := by
  obtain ⟨h1, h2⟩ := tNxN_spec (P := P) (t := t) (pcn P 9)
  obtain ⟨l0, l1, l2⟩ := hl
  by_cases hlt : k < l.length
  · rw [if_pos hlt]
    obtain ⟨m1, m2⟩ := (l2 (l.getD k 0)).mpr ⟨k, hlt, rfl⟩
    cases hq : tNxN P t (pcn P 9) with
    | none => exact absurd (ht.2 k (Nat.le_refl _) hlt) (h2 hq _ m1 m2)
    | some j =>
      obtain ⟨j1, j2, j3, j4⟩ := h1 j hq
      obtain ⟨i, i1, i2⟩ := (l2 j).mp ⟨j1, j2⟩
      have hle := j4 _ m1 m2 (ht.2 k (Nat.le_refl _) hlt)
      rcases Nat.lt_trichotomy i k with h | h | h
      · have := ht.1 i h; rw [i2] at this; omega
      · rw [← i2, h]
      · have := l1 k i h i1; rw [i2] at this; omega
  · rw [if_neg hlt]
    cases hq : tNxN P t (pcn P 9) with
    | none => rfl
    | some j =>
      obtain ⟨j1, j2, j3, j4⟩ := h1 j hq
      obtain ⟨i, i1, i2⟩ := (l2 j).mp ⟨j1, j2⟩
      have := ht.1 i (by omega)
      rw [i2] at this
      omega

/-- whether a new lamp of life L does, from the k-th of l on, h hours used -/
def tDoesN (P : zP) (l : List Nat) (L : Nat) : Nat → Nat → Nat → Bool
  | 0, _, _ => true
  | n + 1, k, h => if zBright (nI L) (nI h) < P 1 (tKd P (l.getD k 0)) 1 ∨ L < h + (P 1 (tKd P (l.getD k 0)) 0).toNatClampNeg then false else tDoesN P l L n (k + 1) (h + (P 1 (tKd P (l.getD k 0)) 0).toNatClampNeg)
def tLeastF (P : zP) (l : List Nat) : Nat → Nat → Int32
  | 0, _ => -6
  | f + 1, L => if tDoesN P l L l.length 0 0 = true then nI L else tLeastF P l f (L + 1)
def tLeast (P : zP) (l : List Nat) : Int32 := tLeastF P l 4951 50
section ZTW30
variable {G : zG} {μ : zM} {m : Nat} {lam : Nat → Nat} {K : Nat → Nat → Int32} {P : zP} {R : tR}
/-- the order is laid -/
def tLaid (K K' : Nat → Nat → Int32) (l : List Nat) : Prop := K' 0 3 = nI l.length ∧ (∀ i, i < l.length → K' 9 i = nI (l.getD i 0)) ∧ (∀ j, j ≠ 3 → K' 0 j = K 0 j) ∧ ∀ r, r ≠ 0 → r ≠ 9 → K' r = K r
theorem lay_inner {t : Nat} {tv : Int32} {post : Option Value → zM → Prop} (hT : zTP G μ m lam K P) (hI : tTimes P) (htv : ∀ s, s < pcn P 9 → (tv < nI (tTm P s) ↔ t ≤ tTm P s)) (fin : AW G 2 MX2_layOrder post 0 0 117 [(0, .ref m), (1, .int tv), (2, .int 1), (3, .int (zNo (tNxN P t (pcn P 9))))] [] μ) : ∀ n s, s + n = pcn P 9 → AW G 2 MX2_layOrder post 0 0 19 [(0, .ref m), (1, .int tv), (2, .int 1), (3, .int (zNo (tNxN P t s))), (4, .int (nI s))] [] μ := by
  have hm := hT.m
  have h1 := hT.a1
  obtain ⟨hn, hN⟩ := hT.2.2.s
  intro n
  induction n with
  | zero =>
    intro s hs
    refine aw_iload (q := 21) dX2_layOrder_19 rfl rfl ?_
    first | refine aw_aload_n (i := 0) (q := 22) dX2_layOrder_21 rfl rfl rfl ?_ | refine aw_aloadN_n (i := 0) (q := 22) dX2_layOrder_21 rfl rfl rfl ?_ | refine aw_aloadQ_n (i := 0) (q := 22) dX2_layOrder_21 rfl rfl rfl ?_
    refine aw_getfield (q := 25) dX2_layOrder_22 gf_X2_7_2 (by assumption) rfl rfl ?_
    refine aw_bipush (v := 9) (q := 27) dX2_layOrder_25 rfl rfl ?_
    refine aw_iald (q := 28) (v := nI (pcn P 9)) (9) dX2_layOrder_27 (by assumption) (by first | assumption | (simp only [← nI_add, ← pk_mul]; rfl) | rfl) (by omega) (by omega) ((hT.2.1.g (by omega)).trans hn) rfl ?_
    refine aw_icmp_ge (tgt := 117) (q := 31) dX2_layOrder_28 (by decide) rfl (fun _ => ?_) (fun hc => absurd (nI_le (by omega) (by omega)) hc)
    have e : pcn P 9 = s := by omega
    rw [e] at fin
    exact aw_locals (by exact ⟨rfl, rfl, rfl, rfl, trivial⟩) (fin)
  | succ n ih =>
    intro s hs
    have hlt : s < pcn P 9 := by omega
    obtain ⟨eT, lT⟩ := tTm_eq hI hlt
    have hv := htv s hlt
    refine aw_iload (q := 21) dX2_layOrder_19 rfl rfl ?_
    first | refine aw_aload_n (i := 0) (q := 22) dX2_layOrder_21 rfl rfl rfl ?_ | refine aw_aloadN_n (i := 0) (q := 22) dX2_layOrder_21 rfl rfl rfl ?_ | refine aw_aloadQ_n (i := 0) (q := 22) dX2_layOrder_21 rfl rfl rfl ?_
    refine aw_getfield (q := 25) dX2_layOrder_22 gf_X2_7_2 (by assumption) rfl rfl ?_
    refine aw_bipush (v := 9) (q := 27) dX2_layOrder_25 rfl rfl ?_
    refine aw_iald (q := 28) (v := nI (pcn P 9)) (9) dX2_layOrder_27 (by assumption) (by first | assumption | (simp only [← nI_add, ← pk_mul]; rfl) | rfl) (by omega) (by omega) ((hT.2.1.g (by omega)).trans hn) rfl ?_
    refine aw_icmp_ge (tgt := 117) (q := 31) dX2_layOrder_28 (by decide) rfl (fun hc => absurd hc (nI_ge hlt (by omega))) (fun _ => ?_)
    refine aw_bipush (v := 6) (q := 33) dX2_layOrder_31 rfl rfl ?_
    first | refine aw_aload_n (i := 0) (q := 34) dX2_layOrder_33 rfl rfl rfl ?_ | refine aw_aloadN_n (i := 0) (q := 34) dX2_layOrder_33 rfl rfl rfl ?_ | refine aw_aloadQ_n (i := 0) (q := 34) dX2_layOrder_33 rfl rfl rfl ?_
    refine aw_iload (q := 36) dX2_layOrder_34 rfl rfl ?_
    refine aw_iconst (v := 1) (q := 37) dX2_layOrder_36 rfl rfl ?_
    refine aw_callV (q := 40) dX2_layOrder_37 (C2_ofShow (s := s) (c := 1) hT rfl rfl (by omega) (by omega)) cv_X2_75_2 (by assumption) rfl rfl (by decide) (by decide) (by first | exact Nat.le_of_ble_eq_true rfl | simp [zcat_rf, Value.category]) rfl (zpk ?_)
    refine aw_imul (q := 41) dX2_layOrder_40 rfl ?_
    first | refine aw_aload_n (i := 0) (q := 42) dX2_layOrder_41 rfl rfl rfl ?_ | refine aw_aloadN_n (i := 0) (q := 42) dX2_layOrder_41 rfl rfl rfl ?_ | refine aw_aloadQ_n (i := 0) (q := 42) dX2_layOrder_41 rfl rfl rfl ?_
    refine aw_iload (q := 44) dX2_layOrder_42 rfl rfl ?_
    refine aw_iconst (v := 2) (q := 45) dX2_layOrder_44 rfl rfl ?_
    refine aw_callV (q := 48) dX2_layOrder_45 (C2_ofShow (s := s) (c := 2) hT rfl rfl (by omega) (by omega)) cv_X2_75_2 (by assumption) rfl rfl (by decide) (by decide) (by first | exact Nat.le_of_ble_eq_true rfl | simp [zcat_rf, Value.category]) rfl (zpk ?_)
    refine aw_iadd (q := 49) dX2_layOrder_48 rfl ?_
    refine aw_istore (q := 51) dX2_layOrder_49 (by decide) rfl ?_
    first | refine aw_aload_n (i := 0) (q := 52) dX2_layOrder_51 rfl rfl rfl ?_ | refine aw_aloadN_n (i := 0) (q := 52) dX2_layOrder_51 rfl rfl rfl ?_ | refine aw_aloadQ_n (i := 0) (q := 52) dX2_layOrder_51 rfl rfl rfl ?_
    refine aw_iload (q := 54) dX2_layOrder_52 rfl rfl ?_
    refine aw_iconst (v := 3) (q := 55) dX2_layOrder_54 rfl rfl ?_
    rw [eT]
    refine aw_callV (q := 58) dX2_layOrder_55 (C2_ofShow (s := s) (c := 3) hT rfl rfl (by omega) (by omega)) cv_X2_75_2 (by assumption) rfl rfl (by decide) (by decide) (by first | exact Nat.le_of_ble_eq_true rfl | simp [zcat_rf, Value.category]) rfl (zpk ?_)
    refine aw_if_ne (tgt := 71) (q := 61) dX2_layOrder_58 (by decide) rfl (fun ha => ?_) (fun ha => ?_)
    · refine aw_iconst (v := 0) (q := 72) dX2_layOrder_71 rfl rfl ?_
      refine aw_istore (q := 74) dX2_layOrder_72 (by decide) rfl ?_
      refine aw_iload (q := 76) dX2_layOrder_74 rfl rfl ?_
      have e : tNxN P t (s + 1) = tNxN P t s := if_neg (fun q => ha q.1)
      refine aw_if_eq (tgt := 109) (q := 79) dX2_layOrder_76 (by decide) rfl (fun _ => ?_) (fun hc => absurd (rfl) hc)
      refine aw_iload_n (i := 3) (q := 110) dX2_layOrder_109 rfl rfl rfl ?_
      refine aw_istore_n (i := 3) (q := 111) dX2_layOrder_110 rfl (by decide) rfl ?_
      refine aw_iinc (q := 114) dX2_layOrder_111 rfl (by first | exact nI_1 _ | rfl) (by decide) rfl ?_
      refine aw_goto (tgt := 19) dX2_layOrder_114 (by decide) ?_
      exact aw_locals (by exact ⟨rfl, rfl, rfl, by (rw [e]; rfl), rfl, trivial⟩) (ih (s + 1) (by omega))
    · refine aw_iload (q := 63) dX2_layOrder_61 rfl rfl ?_
      refine aw_iload_n (i := 1) (q := 64) dX2_layOrder_63 rfl rfl rfl ?_
      refine aw_icmp_le (tgt := 71) (q := 67) dX2_layOrder_64 (by decide) rfl (fun hb => ?_) (fun hb => ?_)
      · refine aw_iconst (v := 0) (q := 72) dX2_layOrder_71 rfl rfl ?_
        refine aw_istore (q := 74) dX2_layOrder_72 (by decide) rfl ?_
        refine aw_iload (q := 76) dX2_layOrder_74 rfl rfl ?_
        have e : tNxN P t (s + 1) = tNxN P t s := if_neg (fun q => Int32.not_lt.mpr hb (hv.mpr q.2.1))
        refine aw_if_eq (tgt := 109) (q := 79) dX2_layOrder_76 (by decide) rfl (fun _ => ?_) (fun hc => absurd (rfl) hc)
        refine aw_iload_n (i := 3) (q := 110) dX2_layOrder_109 rfl rfl rfl ?_
        refine aw_istore_n (i := 3) (q := 111) dX2_layOrder_110 rfl (by decide) rfl ?_
        refine aw_iinc (q := 114) dX2_layOrder_111 rfl (by first | exact nI_1 _ | rfl) (by decide) rfl ?_
        refine aw_goto (tgt := 19) dX2_layOrder_114 (by decide) ?_
        exact aw_locals (by exact ⟨rfl, rfl, rfl, by (rw [e]; rfl), rfl, trivial⟩) (ih (s + 1) (by omega))
      · refine aw_iconst (v := 1) (q := 68) dX2_layOrder_67 rfl rfl ?_
        refine aw_goto (tgt := 72) dX2_layOrder_68 (by decide) ?_
        refine aw_istore (q := 74) dX2_layOrder_72 (by decide) rfl ?_
        refine aw_iload (q := 76) dX2_layOrder_74 rfl rfl ?_
        have hb2 := hv.mp (Int32.not_le.mp hb)
        have ha2 : P 3 s 3 = 0 := ha
        have hsp := (tNxN_spec (P := P) (t := t) s).1
        cases hq : tNxN P t s with
        | none =>
          have e : tNxN P t (s + 1) = some s := by rw [tNxN, hq]; exact if_pos ⟨ha2, hb2, rfl⟩
          refine aw_if_eq (tgt := 109) (q := 79) dX2_layOrder_76 (by decide) rfl (fun hc => absurd hc ((by decide))) (fun _ => ?_)
          refine aw_iload_n (i := 3) (q := 80) dX2_layOrder_79 rfl rfl rfl ?_
          refine aw_if_lt (tgt := 104) (q := 83) dX2_layOrder_80 (by decide) rfl (fun _ => ?_) (fun hc => absurd ((show zNo none < 0 by decide)) hc)
          refine aw_iload (q := 106) dX2_layOrder_104 rfl rfl ?_
          refine aw_goto (tgt := 110) dX2_layOrder_106 (by decide) ?_
          refine aw_istore_n (i := 3) (q := 111) dX2_layOrder_110 rfl (by decide) rfl ?_
          refine aw_iinc (q := 114) dX2_layOrder_111 rfl (by first | exact nI_1 _ | rfl) (by decide) rfl ?_
          refine aw_goto (tgt := 19) dX2_layOrder_114 (by decide) ?_
          exact aw_locals (by exact ⟨rfl, rfl, rfl, by (rw [e]; rfl), rfl, trivial⟩) (ih (s + 1) (by omega))
        | some j =>
          obtain ⟨j1, j2, j3, j4⟩ := hsp j hq
          obtain ⟨eJ, lJ⟩ := tTm_eq hI (s := j) (by omega)
          refine aw_if_eq (tgt := 109) (q := 79) dX2_layOrder_76 (by decide) rfl (fun hc => absurd hc ((by decide))) (fun _ => ?_)
          refine aw_iload_n (i := 3) (q := 80) dX2_layOrder_79 rfl rfl rfl ?_
          refine aw_if_lt (tgt := 104) (q := 83) dX2_layOrder_80 (by decide) rfl (fun hc => absurd hc ((nI_pos (n := j) (by omega)))) (fun _ => ?_)
          refine aw_iload (q := 85) dX2_layOrder_83 rfl rfl ?_
          refine aw_bipush (v := 6) (q := 87) dX2_layOrder_85 rfl rfl ?_
          first | refine aw_aload_n (i := 0) (q := 88) dX2_layOrder_87 rfl rfl rfl ?_ | refine aw_aloadN_n (i := 0) (q := 88) dX2_layOrder_87 rfl rfl rfl ?_ | refine aw_aloadQ_n (i := 0) (q := 88) dX2_layOrder_87 rfl rfl rfl ?_
          refine aw_iload_n (i := 3) (q := 89) dX2_layOrder_88 rfl rfl rfl ?_
          refine aw_iconst (v := 1) (q := 90) dX2_layOrder_89 rfl rfl ?_
          refine aw_callV (q := 93) dX2_layOrder_90 (C2_ofShow (s := j) (c := 1) hT rfl rfl (by omega) (by omega)) cv_X2_75_2 (by assumption) rfl rfl (by decide) (by decide) (by first | exact Nat.le_of_ble_eq_true rfl | simp [zcat_rf, Value.category]) rfl (zpk ?_)
          refine aw_imul (q := 94) dX2_layOrder_93 rfl ?_
          first | refine aw_aload_n (i := 0) (q := 95) dX2_layOrder_94 rfl rfl rfl ?_ | refine aw_aloadN_n (i := 0) (q := 95) dX2_layOrder_94 rfl rfl rfl ?_ | refine aw_aloadQ_n (i := 0) (q := 95) dX2_layOrder_94 rfl rfl rfl ?_
          refine aw_iload_n (i := 3) (q := 96) dX2_layOrder_95 rfl rfl rfl ?_
          refine aw_iconst (v := 2) (q := 97) dX2_layOrder_96 rfl rfl ?_
          refine aw_callV (q := 100) dX2_layOrder_97 (C2_ofShow (s := j) (c := 2) hT rfl rfl (by omega) (by omega)) cv_X2_75_2 (by assumption) rfl rfl (by decide) (by decide) (by first | exact Nat.le_of_ble_eq_true rfl | simp [zcat_rf, Value.category]) rfl (zpk ?_)
          refine aw_iadd (q := 101) dX2_layOrder_100 rfl ?_
          rw [eJ]
          refine aw_icmp_ge (tgt := 109) (q := 104) dX2_layOrder_101 (by decide) rfl (fun hc => ?_) (fun hc => ?_)
          · refine aw_iload_n (i := 3) (q := 110) dX2_layOrder_109 rfl rfl rfl ?_
            refine aw_istore_n (i := 3) (q := 111) dX2_layOrder_110 rfl (by decide) rfl ?_
            refine aw_iinc (q := 114) dX2_layOrder_111 rfl (by first | exact nI_1 _ | rfl) (by decide) rfl ?_
            refine aw_goto (tgt := 19) dX2_layOrder_114 (by decide) ?_
            have hc2 := zle hc (by omega) (by omega)
            have e : tNxN P t (s + 1) = some j := by rw [tNxN, hq]; exact if_neg (fun q => absurd (of_decide_eq_true q.2.2) (by omega))
            exact aw_locals (by exact ⟨rfl, rfl, rfl, by (rw [e]; rfl), rfl, trivial⟩) (ih (s + 1) (by omega))
          · refine aw_iload (q := 106) dX2_layOrder_104 rfl rfl ?_
            refine aw_goto (tgt := 110) dX2_layOrder_106 (by decide) ?_
            refine aw_istore_n (i := 3) (q := 111) dX2_layOrder_110 rfl (by decide) rfl ?_
            refine aw_iinc (q := 114) dX2_layOrder_111 rfl (by first | exact nI_1 _ | rfl) (by decide) rfl ?_
            refine aw_goto (tgt := 19) dX2_layOrder_114 (by decide) ?_
            have hc2 := znle hc (by omega)
            have e : tNxN P t (s + 1) = some s := by rw [tNxN, hq]; exact if_pos ⟨ha2, hb2, decide_eq_true hc2⟩
            exact aw_locals (by exact ⟨rfl, rfl, rfl, by (rw [e]; rfl), rfl, trivial⟩) (ih (s + 1) (by omega))
theorem C2_layOrder {l : List Nat} (hT : zTP G μ m lam K P) (hI : tTimes P) (hl : tIsOrd P l) : Meets G 2 MX2_layOrder [.ref m] μ (fun v μ' => v = none ∧ (∃ K', zTP G μ' m lam K' P ∧ tLaid K K' l) ∧ zKp tTw μ μ') 0 0 := by
  have hm := hT.m
  obtain ⟨hn, hN⟩ := hT.2.2.s
  have hlen := hl.1
  refine meets_of (by decide +kernel) (Nat.le_of_ble_eq_true rfl) ?_
  first | refine aw_aload_n (i := 0) (q := 1) dX2_layOrder_0 rfl rfl rfl ?_ | refine aw_aloadN_n (i := 0) (q := 1) dX2_layOrder_0 rfl rfl rfl ?_ | refine aw_aloadQ_n (i := 0) (q := 1) dX2_layOrder_0 rfl rfl rfl ?_
  refine aw_iconst (v := 0) (q := 2) dX2_layOrder_1 rfl rfl ?_
  refine aw_putfield (q := 5) dX2_layOrder_2 gf_X2_176_2 hm (by first | assumption | simp) (by first | rfl | exact znar_rf _ _) (by first | rfl | exact zfit_rf _ _) (Nat.le_of_ble_eq_true rfl) rfl (fun μ1 hg_μ1 => ?_)
  have hm : μ1 _ = some _ := hg_μ1 ▸ updM_eq _ _ _
  simp only [List.set] at hm hg_μ1
  obtain ⟨hT1, hk1⟩ := hT.1.sc' 3 0 hg_μ1
  have hT1 := hT.other hT1 (setK_ne (by decide))
  refine aw_iconst (v := (-1)) (q := 6) dX2_layOrder_5 rfl rfl ?_
  refine aw_istore_n (i := 1) (q := 7) dX2_layOrder_6 rfl (by decide) rfl ?_
  refine aw_iconst (v := 1) (q := 8) dX2_layOrder_7 rfl rfl ?_
  refine aw_istore_n (i := 2) (q := 9) dX2_layOrder_8 rfl (by decide) rfl ?_
  have loop : ∀ n k, k + n = l.length → ∀ (t : Nat) (tv : Int32), (∀ s, s < pcn P 9 → (tv < nI (tTm P s) ↔ t ≤ tTm P s)) → ((∀ i, i < k → tTm P (l.getD i 0) < t) ∧ ∀ i, k ≤ i → i < l.length → t ≤ tTm P (l.getD i 0)) → ∀ (μ2 : zM) (K2 : Nat → Nat → Int32), zTP G μ2 m lam K2 P → zKp tTw μ μ2 → K2 0 3 = nI k → (∀ i, i < k → K2 9 i = nI (l.getD i 0)) → (∀ j, j ≠ 3 → K2 0 j = K 0 j) → (∀ r, r ≠ 0 → r ≠ 9 → K2 r = K r) →
      AW G 2 MX2_layOrder (fun v μ' => v = none ∧ (∃ K', zTP G μ' m lam K' P ∧ tLaid K K' l) ∧ zKp tTw μ μ') 0 0 9 [(0, .ref m), (1, .int tv), (2, .int 1)] [] μ2 := by
    intro n
    induction n with
    | zero =>
      intro k hk t tv htv ht μ2 K2 hT hkp e3 e9 ej er
      have hm := hT.m
      have h1 := hT.a1
      have hord := tNx_ord hl (k := k) (by omega) ht
      rw [if_neg (by omega)] at hord
      have inner : ∀ n s, s + n = pcn P 9 → AW G 2 MX2_layOrder (fun v μ' => v = none ∧ (∃ K', zTP G μ' m lam K' P ∧ tLaid K K' l) ∧ zKp tTw μ μ') 0 0 19 [(0, .ref m), (1, .int tv), (2, .int 1), (3, .int (zNo (tNxN P t s))), (4, .int (nI s))] [] μ2 := by
        refine lay_inner hT hI htv ?_
        rw [hord]
        refine aw_iload_n (i := 3) (q := 118) dX2_layOrder_117 rfl rfl rfl ?_
        refine aw_if_lt (tgt := 125) (q := 121) dX2_layOrder_118 (by decide) rfl (fun _ => ?_) (fun hc => absurd ((show zNo none < 0 by decide)) hc)
        refine aw_iconst (v := 0) (q := 126) dX2_layOrder_125 rfl rfl ?_
        refine aw_istore_n (i := 2) (q := 127) dX2_layOrder_126 rfl (by decide) rfl ?_
        refine aw_iload_n (i := 2) (q := 128) dX2_layOrder_127 rfl rfl rfl ?_
        refine aw_if_eq (tgt := 168) (q := 131) dX2_layOrder_128 (by decide) rfl (fun _ => ?_) (fun hc => absurd (rfl) hc)
        refine aw_goto (tgt := 9) dX2_layOrder_168 (by decide) ?_
        refine aw_iload_n (i := 2) (q := 10) dX2_layOrder_9 rfl rfl rfl ?_
        refine aw_if_eq (tgt := 171) (q := 13) dX2_layOrder_10 (by decide) rfl (fun _ => ?_) (fun hc => absurd (rfl) hc)
        exact aw_return dX2_layOrder_171 rfl (⟨rfl, ⟨K2, hT, by rw [e3, show k = l.length by omega], fun i hi => e9 i (by omega), ej, er⟩, hkp⟩)
      refine aw_iload_n (i := 2) (q := 10) dX2_layOrder_9 rfl rfl rfl ?_
      refine aw_if_eq (tgt := 171) (q := 13) dX2_layOrder_10 (by decide) rfl (fun hc => absurd hc ((by decide))) (fun _ => ?_)
      refine aw_bipush (v := (-6)) (q := 15) dX2_layOrder_13 rfl rfl ?_
      refine aw_istore_n (i := 3) (q := 16) dX2_layOrder_15 rfl (by decide) rfl ?_
      refine aw_iconst (v := 0) (q := 17) dX2_layOrder_16 rfl rfl ?_
      refine aw_istore (q := 19) dX2_layOrder_17 (by decide) rfl ?_
      exact aw_locals (by exact ⟨rfl, rfl, rfl, rfl, rfl, trivial⟩) (inner (pcn P 9) 0 (by omega))
    | succ n ih =>
      intro k hk t tv htv ht μ2 K2 hT hkp e3 e9 ej er
      have hm := hT.m
      have h1 := hT.a1
      have hord := tNx_ord hl (k := k) (by omega) ht
      rw [if_pos (by omega)] at hord
      obtain ⟨m1, m2⟩ := (hl.2.2 (l.getD k 0)).mpr ⟨k, by omega, rfl⟩
      obtain ⟨eT, lT⟩ := tTm_eq hI m1
      generalize hq : l.getD k 0 = q at *
      have inner : ∀ n s, s + n = pcn P 9 → AW G 2 MX2_layOrder (fun v μ' => v = none ∧ (∃ K', zTP G μ' m lam K' P ∧ tLaid K K' l) ∧ zKp tTw μ μ') 0 0 19 [(0, .ref m), (1, .int tv), (2, .int 1), (3, .int (zNo (tNxN P t s))), (4, .int (nI s))] [] μ2 := by
        refine lay_inner hT hI htv ?_
        rw [hord]
        refine aw_iload_n (i := 3) (q := 118) dX2_layOrder_117 rfl rfl rfl ?_
        refine aw_if_lt (tgt := 125) (q := 121) dX2_layOrder_118 (by decide) rfl (fun hc => absurd hc ((nI_pos (n := q) (by omega)))) (fun _ => ?_)
        refine aw_iconst (v := 1) (q := 122) dX2_layOrder_121 rfl rfl ?_
        refine aw_goto (tgt := 126) dX2_layOrder_122 (by decide) ?_
        refine aw_istore_n (i := 2) (q := 127) dX2_layOrder_126 rfl (by decide) rfl ?_
        refine aw_iload_n (i := 2) (q := 128) dX2_layOrder_127 rfl rfl rfl ?_
        refine aw_if_eq (tgt := 168) (q := 131) dX2_layOrder_128 (by decide) rfl (fun hc => absurd hc ((by decide))) (fun _ => ?_)
        have h9 := hT.a9
        first | refine aw_aload_n (i := 0) (q := 132) dX2_layOrder_131 rfl rfl rfl ?_ | refine aw_aloadN_n (i := 0) (q := 132) dX2_layOrder_131 rfl rfl rfl ?_ | refine aw_aloadQ_n (i := 0) (q := 132) dX2_layOrder_131 rfl rfl rfl ?_
        refine aw_getfield (q := 135) dX2_layOrder_132 gf_X2_35_2 (by assumption) rfl rfl ?_
        first | refine aw_aload_n (i := 0) (q := 136) dX2_layOrder_135 rfl rfl rfl ?_ | refine aw_aloadN_n (i := 0) (q := 136) dX2_layOrder_135 rfl rfl rfl ?_ | refine aw_aloadQ_n (i := 0) (q := 136) dX2_layOrder_135 rfl rfl rfl ?_
        refine aw_getfield (q := 139) dX2_layOrder_136 gf_X2_176_2 (by assumption) rfl rfl ?_
        refine aw_iload_n (i := 3) (q := 140) dX2_layOrder_139 rfl rfl rfl ?_
        rw [e3]
        refine aw_iast (q := 141) (k) dX2_layOrder_140 h9 (by first | assumption | simp) (by first | assumption | (simp only [← nI_add, ← pk_mul]; rfl) | rfl) (by omega) (by omega) rfl (fun μ3 hg_μ3 => ?_)
        have h9 : μ3 _ = some _ := hg_μ3 ▸ updM_eq _ _ _
        obtain ⟨hT3, hk3⟩ := hT.1.st9 hg_μ3
        have hT3 := hT.other hT3 (setK_ne (by decide))
        have hm := hT3.m
        first | refine aw_aload_n (i := 0) (q := 142) dX2_layOrder_141 rfl rfl rfl ?_ | refine aw_aloadN_n (i := 0) (q := 142) dX2_layOrder_141 rfl rfl rfl ?_ | refine aw_aloadQ_n (i := 0) (q := 142) dX2_layOrder_141 rfl rfl rfl ?_
        refine aw_dup (q := 143) dX2_layOrder_142 (by first | rfl | exact zcat_rf _) rfl ?_
        refine aw_getfield (q := 146) dX2_layOrder_143 gf_X2_176_2 (by assumption) rfl rfl ?_
        refine aw_iconst (v := 1) (q := 147) dX2_layOrder_146 rfl rfl ?_
        refine aw_iadd (q := 148) dX2_layOrder_147 rfl ?_
        rw [show setK K2 9 (upd (K2 9) k (zNo (some q))) 0 3 = nI k from e3]
        rw [nI_1]
        refine aw_putfield (q := 151) dX2_layOrder_148 gf_X2_176_2 hm (by first | assumption | simp) (by first | rfl | exact znar_rf _ _) (by first | rfl | exact zfit_rf _ _) (Nat.le_of_ble_eq_true rfl) rfl (fun μ4 hg_μ4 => ?_)
        have hm : μ4 _ = some _ := hg_μ4 ▸ updM_eq _ _ _
        simp only [List.set] at hm hg_μ4
        obtain ⟨hT4, hk4⟩ := hT3.1.sc' 3 (nI (k + 1)) hg_μ4
        have hT4 := hT3.other hT4 (setK_ne (by decide))
        have hm := hT4.m
        refine aw_bipush (v := 6) (q := 153) dX2_layOrder_151 rfl rfl ?_
        first | refine aw_aload_n (i := 0) (q := 154) dX2_layOrder_153 rfl rfl rfl ?_ | refine aw_aloadN_n (i := 0) (q := 154) dX2_layOrder_153 rfl rfl rfl ?_ | refine aw_aloadQ_n (i := 0) (q := 154) dX2_layOrder_153 rfl rfl rfl ?_
        refine aw_iload_n (i := 3) (q := 155) dX2_layOrder_154 rfl rfl rfl ?_
        refine aw_iconst (v := 1) (q := 156) dX2_layOrder_155 rfl rfl ?_
        refine aw_callV (q := 159) dX2_layOrder_156 (C2_ofShow (s := q) (c := 1) hT4 rfl rfl (by omega) (by omega)) cv_X2_75_2 (by assumption) rfl rfl (by decide) (by decide) (by first | exact Nat.le_of_ble_eq_true rfl | simp [zcat_rf, Value.category]) rfl (zpk ?_)
        refine aw_imul (q := 160) dX2_layOrder_159 rfl ?_
        first | refine aw_aload_n (i := 0) (q := 161) dX2_layOrder_160 rfl rfl rfl ?_ | refine aw_aloadN_n (i := 0) (q := 161) dX2_layOrder_160 rfl rfl rfl ?_ | refine aw_aloadQ_n (i := 0) (q := 161) dX2_layOrder_160 rfl rfl rfl ?_
        refine aw_iload_n (i := 3) (q := 162) dX2_layOrder_161 rfl rfl rfl ?_
        refine aw_iconst (v := 2) (q := 163) dX2_layOrder_162 rfl rfl ?_
        refine aw_callV (q := 166) dX2_layOrder_163 (C2_ofShow (s := q) (c := 2) hT4 rfl rfl (by omega) (by omega)) cv_X2_75_2 (by assumption) rfl rfl (by decide) (by decide) (by first | exact Nat.le_of_ble_eq_true rfl | simp [zcat_rf, Value.category]) rfl (zpk ?_)
        refine aw_iadd (q := 167) dX2_layOrder_166 rfl ?_
        refine aw_istore_n (i := 1) (q := 168) dX2_layOrder_167 rfl (by decide) rfl ?_
        refine aw_goto (tgt := 9) dX2_layOrder_168 (by decide) ?_
        rw [eT]
        exact aw_locals (by exact ⟨rfl, rfl, rfl, trivial⟩) (ih (k + 1) (by omega) (tTm P q + 1) (nI (tTm P q)) (fun s hs => by (have := (tTm_eq hI hs).2; rw [nI_ltI (by omega) (by omega)]; omega)) ⟨fun i hi => by (by_cases e : i = k; (rw [e, hq]; omega); (have := hl.2.1 i k (by omega) (by omega); rw [hq] at this; omega)), fun i h1 h2 => by (have := hl.2.1 k i (by omega) h2; rw [hq] at this; omega)⟩ μ4 _ hT4 ((hkp.tr hk3).tr hk4) (by rw [setK_eq]; exact pk_us) (fun i hi => by (show upd (K2 9) k (nI q) i = _; by_cases e : i = k; (rw [e, pk_us, hq]); (rw [pk_un e]; exact e9 i (by omega)))) (fun j hj => by (rw [setK_eq]; exact (pk_un hj).trans (ej j hj))) (fun r r1 r2 => by (rw [setK_ne r1, setK_ne r2]; exact er r r1 r2)))
      refine aw_iload_n (i := 2) (q := 10) dX2_layOrder_9 rfl rfl rfl ?_
      refine aw_if_eq (tgt := 171) (q := 13) dX2_layOrder_10 (by decide) rfl (fun hc => absurd hc ((by decide))) (fun _ => ?_)
      refine aw_bipush (v := (-6)) (q := 15) dX2_layOrder_13 rfl rfl ?_
      refine aw_istore_n (i := 3) (q := 16) dX2_layOrder_15 rfl (by decide) rfl ?_
      refine aw_iconst (v := 0) (q := 17) dX2_layOrder_16 rfl rfl ?_
      refine aw_istore (q := 19) dX2_layOrder_17 (by decide) rfl ?_
      exact aw_locals (by exact ⟨rfl, rfl, rfl, rfl, rfl, trivial⟩) (inner (pcn P 9) 0 (by omega))
  exact aw_locals (by exact ⟨rfl, rfl, rfl, trivial⟩) (loop l.length 0 (by omega) 0 (-1) (fun s hs => ⟨fun _ => Nat.zero_le _, fun _ => by (have := (tTm_eq hI hs).2; exact Int32.lt_of_lt_of_le (by decide : (-1 : Int32) < 0) (nI_pos' (by omega)))⟩) ⟨fun i hi => by omega, fun i _ _ => Nat.zero_le _⟩ μ1 _ hT1 hk1 (by rw [setK_eq]; exact pk_us) (fun i hi => by omega) (fun j hj => by (rw [setK_eq]; exact pk_un hj)) (fun r r1 r2 => setK_ne r1))
theorem C2_doesFor {l : List Nat} {L : Nat} {x : Int32} (hT : zTP G μ m lam K P) (hx : x = nI L) (hL : 50 ≤ L ∧ L ≤ 5000) (hI : tPI P) (hKL : tKL P) (hl : tIsOrd P l) (e3 : K 0 3 = nI l.length) (e9 : ∀ i, i < l.length → K 9 i = nI (l.getD i 0)) : Meets G 2 MX2_doesFor [.ref m, .int x] μ (zPure (.int (zB (tDoesN P l L l.length 0 0 = true))) μ) 0 0 := by
  subst hx
  have hm := hT.m
  have h1 := hT.a1
  have h9 := hT.a9
  obtain ⟨hn, hN⟩ := hT.2.2.s
  obtain ⟨hkn, hkN⟩ := hT.2.2.k
  have hlen := hl.1
  refine meets_of (by decide +kernel) (Nat.le_of_ble_eq_true rfl) ?_
  refine aw_iconst (v := 0) (q := 1) dX2_doesFor_0 rfl rfl ?_
  refine aw_istore_n (i := 2) (q := 2) dX2_doesFor_1 rfl (by decide) rfl ?_
  refine aw_iconst (v := 0) (q := 3) dX2_doesFor_2 rfl rfl ?_
  refine aw_istore_n (i := 3) (q := 4) dX2_doesFor_3 rfl (by decide) rfl ?_
  have loop : ∀ n k h, k + n = l.length → h ≤ 40 * k → AW G 2 MX2_doesFor (zPure (.int (zB (tDoesN P l L n k h = true))) μ) 0 0 4 [(0, .ref m), (1, .int (nI L)), (2, .int (nI h)), (3, .int (nI k))] [] μ := by
    intro n
    induction n with
    | zero =>
      intro k h hk hh
      refine aw_iload_n (i := 3) (q := 5) dX2_doesFor_4 rfl rfl rfl ?_
      first | refine aw_aload_n (i := 0) (q := 6) dX2_doesFor_5 rfl rfl rfl ?_ | refine aw_aloadN_n (i := 0) (q := 6) dX2_doesFor_5 rfl rfl rfl ?_ | refine aw_aloadQ_n (i := 0) (q := 6) dX2_doesFor_5 rfl rfl rfl ?_
      refine aw_getfield (q := 9) dX2_doesFor_6 gf_X2_176_2 (by assumption) rfl rfl ?_
      rw [e3]
      refine aw_icmp_ge (tgt := 78) (q := 12) dX2_doesFor_9 (by decide) rfl (fun _ => ?_) (fun hc => absurd (nI_le (by omega) (by omega)) hc)
      refine aw_iconst (v := 1) (q := 79) dX2_doesFor_78 rfl rfl ?_
      exact aw_ireturn dX2_doesFor_79 rfl (by first | rfl | exact zB_nar _) (⟨rfl, rfl⟩)
    | succ n ih =>
      intro k h hk hh
      obtain ⟨m1, m2⟩ := (hl.2.2 (l.getD k 0)).mpr ⟨k, by omega, rfl⟩
      obtain ⟨k1, k2⟩ := hI.1.2.2.2 _ m1
      obtain ⟨w, w1, w2, w3⟩ := hKL.1 _ k2
      have ew : (P 1 (tKd P (l.getD k 0)) 0).toNatClampNeg = w := by rw [w3, nI_clamp (by omega)]
      have e0 : tDoesN P l L (n + 1) k h = if zBright (nI L) (nI h) < P 1 (tKd P (l.getD k 0)) 1 ∨ L < h + w then false else tDoesN P l L n (k + 1) (h + w) := by
        show (if _ then _ else _) = _
        rw [ew]
      rw [e0]
      generalize hkd : tKd P (l.getD k 0) = kd at *
      refine aw_iload_n (i := 3) (q := 5) dX2_doesFor_4 rfl rfl rfl ?_
      first | refine aw_aload_n (i := 0) (q := 6) dX2_doesFor_5 rfl rfl rfl ?_ | refine aw_aloadN_n (i := 0) (q := 6) dX2_doesFor_5 rfl rfl rfl ?_ | refine aw_aloadQ_n (i := 0) (q := 6) dX2_doesFor_5 rfl rfl rfl ?_
      refine aw_getfield (q := 9) dX2_doesFor_6 gf_X2_176_2 (by assumption) rfl rfl ?_
      rw [e3]
      refine aw_icmp_ge (tgt := 78) (q := 12) dX2_doesFor_9 (by decide) rfl (fun hc => absurd hc (nI_ge (by omega) (by omega))) (fun _ => ?_)
      refine aw_bipush (v := 20) (q := 14) dX2_doesFor_12 rfl rfl ?_
      refine aw_iconst (v := 3) (q := 15) dX2_doesFor_14 rfl rfl ?_
      first | refine aw_aload_n (i := 0) (q := 16) dX2_doesFor_15 rfl rfl rfl ?_ | refine aw_aloadN_n (i := 0) (q := 16) dX2_doesFor_15 rfl rfl rfl ?_ | refine aw_aloadQ_n (i := 0) (q := 16) dX2_doesFor_15 rfl rfl rfl ?_
      first | refine aw_aload_n (i := 0) (q := 17) dX2_doesFor_16 rfl rfl rfl ?_ | refine aw_aloadN_n (i := 0) (q := 17) dX2_doesFor_16 rfl rfl rfl ?_ | refine aw_aloadQ_n (i := 0) (q := 17) dX2_doesFor_16 rfl rfl rfl ?_
      refine aw_getfield (q := 20) dX2_doesFor_17 gf_X2_35_2 (by assumption) rfl rfl ?_
      refine aw_iload_n (i := 3) (q := 21) dX2_doesFor_20 rfl rfl rfl ?_
      refine aw_iald (q := 22) (v := nI (l.getD k 0)) (k) dX2_doesFor_21 (by assumption) (by first | assumption | (simp only [← nI_add, ← pk_mul]; rfl) | rfl) (by omega) (by omega) (e9 k (by omega)) rfl ?_
      refine aw_iconst (v := 0) (q := 23) dX2_doesFor_22 rfl rfl ?_
      refine aw_callV (q := 26) dX2_doesFor_23 (C2_ofShow (s := l.getD k 0) (c := 0) hT rfl rfl (by omega) (by omega)) cv_X2_75_2 (by assumption) rfl rfl (by decide) (by decide) (by first | exact Nat.le_of_ble_eq_true rfl | simp [zcat_rf, Value.category]) rfl (zpk ?_)
      refine aw_imul (q := 27) dX2_doesFor_26 rfl ?_
      refine aw_iadd (q := 28) dX2_doesFor_27 rfl ?_
      refine aw_istore (q := 30) dX2_doesFor_28 (by decide) rfl ?_
      refine aw_iload_n (i := 2) (q := 31) dX2_doesFor_30 rfl rfl rfl ?_
      refine aw_iload_n (i := 1) (q := 32) dX2_doesFor_31 rfl rfl rfl ?_
      rw [k1]
      refine aw_callS (q := 35) dX2_doesFor_32 (C2_bright (nI_ne0 (by omega) (by omega))) cs_X2_60 rfl rfl (by decide) (by decide) (by first | exact Nat.le_of_ble_eq_true rfl | simp [zcat_rf, Value.category]) rfl (zpk ?_)
      first | refine aw_aload_n (i := 0) (q := 36) dX2_doesFor_35 rfl rfl rfl ?_ | refine aw_aloadN_n (i := 0) (q := 36) dX2_doesFor_35 rfl rfl rfl ?_ | refine aw_aloadQ_n (i := 0) (q := 36) dX2_doesFor_35 rfl rfl rfl ?_
      refine aw_getfield (q := 39) dX2_doesFor_36 gf_X2_7_2 (by assumption) rfl rfl ?_
      refine aw_iload (q := 41) dX2_doesFor_39 rfl rfl ?_
      refine aw_iconst (v := 1) (q := 42) dX2_doesFor_41 rfl rfl ?_
      refine aw_iadd (q := 43) dX2_doesFor_42 rfl ?_
      refine aw_iald (q := 44) (v := P 1 kd 1) (20 + 3 * kd + 1) dX2_doesFor_43 (by assumption) (by first | assumption | (simp only [← nI_add, ← pk_mul]; rfl) | rfl) (by omega) (by omega) (hT.2.1.ki (by omega) (by omega)) rfl ?_
      refine aw_icmp_lt (tgt := 60) (q := 47) dX2_doesFor_44 (by decide) rfl (fun hb => ?_) (fun hb => ?_)
      · refine aw_iconst (v := 0) (q := 61) dX2_doesFor_60 rfl rfl ?_
        exact aw_ireturn dX2_doesFor_61 rfl (by first | rfl | exact zB_nar _) (by refine ⟨?_, rfl⟩; rw [if_pos (Or.inl hb)]; rfl)
      · refine aw_iload_n (i := 2) (q := 48) dX2_doesFor_47 rfl rfl rfl ?_
        first | refine aw_aload_n (i := 0) (q := 49) dX2_doesFor_48 rfl rfl rfl ?_ | refine aw_aloadN_n (i := 0) (q := 49) dX2_doesFor_48 rfl rfl rfl ?_ | refine aw_aloadQ_n (i := 0) (q := 49) dX2_doesFor_48 rfl rfl rfl ?_
        refine aw_getfield (q := 52) dX2_doesFor_49 gf_X2_7_2 (by assumption) rfl rfl ?_
        refine aw_iload (q := 54) dX2_doesFor_52 rfl rfl ?_
        refine aw_iald (q := 55) (v := nI w) (20 + 3 * kd) dX2_doesFor_54 (by assumption) (by first | assumption | (simp only [← nI_add, ← pk_mul]; rfl) | rfl) (by omega) (by omega) ((hT.2.1.ki (c := 0) (by omega) (by omega)).trans w3) rfl ?_
        refine aw_iadd (q := 56) dX2_doesFor_55 rfl ?_
        refine aw_iload_n (i := 1) (q := 57) dX2_doesFor_56 rfl rfl rfl ?_
        rw [nI_add]
        refine aw_icmp_le (tgt := 62) (q := 60) dX2_doesFor_57 (by decide) rfl (fun hc => ?_) (fun hc => ?_)
        · refine aw_iload_n (i := 2) (q := 63) dX2_doesFor_62 rfl rfl rfl ?_
          first | refine aw_aload_n (i := 0) (q := 64) dX2_doesFor_63 rfl rfl rfl ?_ | refine aw_aloadN_n (i := 0) (q := 64) dX2_doesFor_63 rfl rfl rfl ?_ | refine aw_aloadQ_n (i := 0) (q := 64) dX2_doesFor_63 rfl rfl rfl ?_
          refine aw_getfield (q := 67) dX2_doesFor_64 gf_X2_7_2 (by assumption) rfl rfl ?_
          refine aw_iload (q := 69) dX2_doesFor_67 rfl rfl ?_
          have hc2 := zle hc (by omega) (by omega)
          refine aw_iald (q := 70) (v := nI w) (20 + 3 * kd) dX2_doesFor_69 (by assumption) (by first | assumption | (simp only [← nI_add, ← pk_mul]; rfl) | rfl) (by omega) (by omega) ((hT.2.1.ki (c := 0) (by omega) (by omega)).trans w3) rfl ?_
          refine aw_iadd (q := 71) dX2_doesFor_70 rfl ?_
          refine aw_istore_n (i := 2) (q := 72) dX2_doesFor_71 rfl (by decide) rfl ?_
          refine aw_iinc (q := 75) dX2_doesFor_72 rfl (by first | exact nI_1 _ | rfl) (by decide) rfl ?_
          refine aw_goto (tgt := 4) dX2_doesFor_75 (by decide) ?_
          rw [nI_add, if_neg (fun q => q.elim hb (fun q => by omega))]
          exact aw_locals (by exact ⟨rfl, rfl, rfl, rfl, trivial⟩) (ih (k + 1) (h + w) (by omega) (by omega))
        · refine aw_iconst (v := 0) (q := 61) dX2_doesFor_60 rfl rfl ?_
          have hc2 := znle hc (by omega)
          exact aw_ireturn dX2_doesFor_61 rfl (by first | rfl | exact zB_nar _) (by refine ⟨?_, rfl⟩; rw [if_pos (Or.inr hc2)]; rfl)
  exact aw_locals (by exact ⟨rfl, rfl, rfl, rfl, trivial⟩) (loop l.length 0 0 (by omega) (by omega))
theorem C2_leastLife {l : List Nat} (hS : zTS G μ m lam K P R) (hI : tPI P) (hKL : tKL P) (hl : tIsOrd P l) : Meets G 3 MX2_leastLife [.ref m] μ (tAsk G μ m lam P R (tLeast P l)) 0 0 := by
  have hm := hS.1.m
  refine meets_of (by decide +kernel) (Nat.le_of_ble_eq_true rfl) ?_
  first | refine aw_aload_n (i := 0) (q := 1) dX2_leastLife_0 rfl rfl rfl ?_ | refine aw_aloadN_n (i := 0) (q := 1) dX2_leastLife_0 rfl rfl rfl ?_ | refine aw_aloadQ_n (i := 0) (q := 1) dX2_leastLife_0 rfl rfl rfl ?_
  refine aw_callV (q := 4) dX2_leastLife_1 (C2_layOrder hS.1 hI.2.1 hl) cv_X2_179_2 (by assumption) rfl rfl (by decide) (by decide) (by first | exact Nat.le_of_ble_eq_true rfl | simp [zcat_rf, Value.category]) rfl (fun v1 μ1 hp => ?_)
  obtain ⟨rfl, ⟨K1, hT1, hl1⟩, hk1⟩ := hp
  have hm := hT1.m
  have hr1 : tRest K1 R := hS.2.congr (fun j hj => hl1.2.2.1 j (by omega)) (hl1.2.2.2 3 (by decide) (by decide)) (hl1.2.2.2 4 (by decide) (by decide)) (hl1.2.2.2 5 (by decide) (by decide)) (hl1.2.2.2 6 (by decide) (by decide))
  refine aw_bipush (v := 50) (q := 6) dX2_leastLife_4 rfl rfl ?_
  refine aw_istore_n (i := 1) (q := 7) dX2_leastLife_6 rfl (by decide) rfl ?_
  have loop : ∀ f L, L + f = 5001 → 50 ≤ L → AW G 3 MX2_leastLife (tAsk G μ m lam P R (tLeastF P l f L)) 0 0 7 [(0, .ref m), (1, .int (nI L))] [] μ1 := by
    intro f
    induction f with
    | zero =>
      intro L h1 h2
      refine aw_iload_n (i := 1) (q := 8) dX2_leastLife_7 rfl rfl rfl ?_
      refine aw_sipush (v := 5000) (q := 11) dX2_leastLife_8 rfl rfl ?_
      refine aw_icmp_gt (tgt := 30) (q := 14) dX2_leastLife_11 (by decide) rfl (fun _ => ?_) (fun hc => absurd (nI_lt (a := 5000) (by omega) (by omega)) hc)
      refine aw_bipush (v := (-6)) (q := 32) dX2_leastLife_30 rfl rfl ?_
      exact aw_ireturn dX2_leastLife_32 rfl (by first | rfl | exact zB_nar _) (⟨rfl, ⟨K1, hT1, hr1⟩, hk1⟩)
    | succ f ih =>
      intro L h1 h2
      have e0 : tLeastF P l (f + 1) L = if tDoesN P l L l.length 0 0 = true then nI L else tLeastF P l f (L + 1) := rfl
      rw [e0]
      refine aw_iload_n (i := 1) (q := 8) dX2_leastLife_7 rfl rfl rfl ?_
      refine aw_sipush (v := 5000) (q := 11) dX2_leastLife_8 rfl rfl ?_
      refine aw_icmp_gt (tgt := 30) (q := 14) dX2_leastLife_11 (by decide) rfl (fun hc => absurd hc (nI_nlt (a := 5000) (b := L) (by omega) (by omega))) (fun _ => ?_)
      first | refine aw_aload_n (i := 0) (q := 15) dX2_leastLife_14 rfl rfl rfl ?_ | refine aw_aloadN_n (i := 0) (q := 15) dX2_leastLife_14 rfl rfl rfl ?_ | refine aw_aloadQ_n (i := 0) (q := 15) dX2_leastLife_14 rfl rfl rfl ?_
      refine aw_iload_n (i := 1) (q := 16) dX2_leastLife_15 rfl rfl rfl ?_
      refine aw_callV (q := 19) dX2_leastLife_16 (C2_doesFor (l := l) (L := L) hT1 rfl (by omega) hI hKL hl hl1.1 hl1.2.1) cv_X2_182_2 (by assumption) rfl rfl (by decide) (by decide) (by first | exact Nat.le_of_ble_eq_true rfl | simp [zcat_rf, Value.category]) rfl (zpk ?_)
      refine aw_if_eq (tgt := 24) (q := 22) dX2_leastLife_19 (by decide) rfl (fun hb => ?_) (fun hb => ?_)
      · refine aw_iinc (q := 27) dX2_leastLife_24 rfl (by first | exact nI_1 _ | rfl) (by decide) rfl ?_
        refine aw_goto (tgt := 7) dX2_leastLife_27 (by decide) ?_
        rw [if_neg (zB_0 hb)]
        exact aw_locals (by exact ⟨rfl, rfl, trivial⟩) (ih (L + 1) (by omega) (by omega))
      · refine aw_iload_n (i := 1) (q := 23) dX2_leastLife_22 rfl rfl rfl ?_
        rw [if_pos (zB_1 hb)]
        exact aw_ireturn dX2_leastLife_23 rfl (by first | rfl | exact zB_nar _) (⟨rfl, ⟨K1, hT1, hr1⟩, hk1⟩)
  exact aw_locals (by exact ⟨rfl, rfl, trivial⟩) (loop 4951 50 (by omega) (by omega))
end ZTW30
