/-! SPEC, part 2: events, days (mirrors of the twin), pure facts -/
set_option maxRecDepth 100000
def tNum (v : Int32) (n : Nat) : Prop := ∃ k, k < n ∧ v = nI k
theorem tEventAtF_none {P : zP} {day slot : Int32} : ∀ n, (∀ e, e < n → ¬ (P 5 e 0 = day ∧ P 5 e 1 ≤ slot ∧ slot ≤ P 5 e 1 + P 5 e 2 - 1)) → tEventAtF P day slot n = -6
  | 0, _ => rfl
  | n + 1, h => by
    unfold tEventAtF
    rw [if_neg (h n (by omega))]
    exact tEventAtF_none n (fun e he => h e (by omega))
theorem tPlannedAtF_none {P : zP} {day slot : Int32} : ∀ n, (∀ e, e < n → ¬ (P 3 e 3 = 0 ∧ P 3 e 1 = day ∧ P 3 e 2 = slot)) → tPlannedAtF P day slot n = -6
  | 0, _ => rfl
  | n + 1, h => by
    unfold tPlannedAtF
    rw [if_neg (h n (by omega))]
    exact tPlannedAtF_none n (fun e he => h e (by omega))
/-- all times lie below day 1100 -/
def tTimes (P : zP) : Prop := (∀ s, s < pcn P 9 → tNum (P 3 s 1) 1100 ∧ tNum (P 3 s 2) 6) ∧ ∀ e, e < pcn P 11 → tNum (P 5 e 0) 1100
theorem tNum_ne {v : Int32} {n k : Nat} (h : tNum v n) (hk : n ≤ k) (hb : k < 2 ^ 31) : v ≠ nI k := by
  obtain ⟨j, hj, rfl⟩ := h
  intro e
  have := (nI_eq (by omega) hb).mp e
  omega
theorem tFree_late {P : zP} (h : tTimes P) {t : Nat} (ht : 6600 ≤ t) (hb : t < 2 ^ 30) : tFreeT P t := by
  have h1 : tEventAt P (nI (t / 6)) (nI (t % 6)) = -6 := tEventAtF_none _ (fun e he q => tNum_ne (h.2 e he) (by omega) (by omega) q.1)
  have h2 : tPlannedAt P (nI (t / 6)) (nI (t % 6)) = -6 := tPlannedAtF_none _ (fun e he q => tNum_ne (h.1 e he).1 (by omega) (by omega) q.2.1)
  show _ ∧ _
  rw [h1, h2]
  decide
/-- the first free time from t on -/
def tFirstF (P : zP) : Nat → Nat → Nat
  | 0, t => t
  | n + 1, t => if tFreeT P t then t else tFirstF P n (t + 1)
def tFirst (P : zP) (t : Nat) : Nat := tFirstF P 7000 t
theorem tFirstF_spec {P : zP} : ∀ n t, (∃ u, t ≤ u ∧ u < t + n ∧ tFreeT P u) → t ≤ tFirstF P n t ∧ tFirstF P n t < t + n ∧ tFreeT P (tFirstF P n t) ∧ ∀ u, t ≤ u → u < tFirstF P n t → ¬ tFreeT P u
  | 0, t, h => by obtain ⟨u, h1, h2, -⟩ := h; omega
  | n + 1, t, h => by
    unfold tFirstF
    by_cases hf : tFreeT P t
    · rw [if_pos hf]; exact ⟨Nat.le_refl _, by omega, hf, fun u h1 h2 => by omega⟩
    · rw [if_neg hf]
      obtain ⟨u, h1, h2, h3⟩ := h
      have hne : u ≠ t := fun e => hf (e ▸ h3)
      obtain ⟨g1, g2, g3, g4⟩ := tFirstF_spec n (t + 1) ⟨u, by omega, by omega, h3⟩
      refine ⟨by omega, by omega, g3, fun w w1 w2 => ?_⟩
      by_cases e : w = t
      · subst e; exact hf
      · exact g4 w (by omega) w2
theorem tFirst_spec {P : zP} (h : tTimes P) {t : Nat} (hb : t < 2 ^ 29) : t ≤ tFirst P t ∧ tFirst P t < t + 7000 ∧ tFreeT P (tFirst P t) ∧ ∀ u, t ≤ u → u < tFirst P t → ¬ tFreeT P u := by
  refine tFirstF_spec 7000 t ⟨if t < 6600 then 6600 else t, ?_⟩
  split
  · exact ⟨by omega, by omega, tFree_late h (by omega) (by omega)⟩
  · exact ⟨by omega, by omega, tFree_late h (by omega) (by omega)⟩
/-- what booking changes leave alone -/
def tSame (P Q : zP) : Prop := ∀ s i c, (s ≠ 4 ∧ s ≠ 6) ∨ (s = 6 ∧ c < 5) ∨ (s = 4 ∧ (c < 4 ∨ c = 5)) → Q s i c = P s i c
theorem tSame.rf {P : zP} : tSame P P := fun _ _ _ _ => rfl
theorem tSame.tr {P Q R : zP} (h1 : tSame P Q) (h2 : tSame Q R) : tSame P R := fun s i c h => (h2 s i c h).trans (h1 s i c h)
theorem tSame.cn {P Q : zP} (h : tSame P Q) (c : Nat) : pcn Q c = pcn P c := by unfold pcn; rw [h 0 0 c (by omega)]
theorem tSame.sh {P Q : zP} (h : tSame P Q) (b : Nat) : tSh Q b = tSh P b := by unfold tSh; rw [h 4 b 0 (by omega)]
theorem tSame.bkOk {P Q : zP} (h : tSame P Q) (hB : tBkOk P) : tBkOk Q := by
  intro b hb
  rw [h.cn] at hb
  rw [h.sh, h.cn, h 4 b 0 (by omega)]
  exact hB b hb
theorem tTally_same {P : zP} {b w : Nat} : tSame P (tTally P b w) := fun s i c h => tTallyN_lo (by omega)
theorem tMoved_same {P : zP} {b : Nat} {f t : Int32} : tSame P (tMoved P b f t) := fun s i c h => tMovedN_lo (by omega)
theorem tVacate_same {P : zP} {b : Nat} {st rf : Int32} : tSame P (tVacate P b st rf) := by
  intro s i c h
  unfold tVacate tVacateN
  by_cases hi : s = 4 ∧ i = b
  · rw [if_pos hi, if_neg (by omega), if_neg (by omega), if_neg (by omega)]
  · rw [if_neg hi]
theorem tLose_same {P : zP} {b w : Nat} : tSame P (tLose P b w) := tTally_same.tr tVacate_same
/-- other bookings stay -/
theorem tLose_bk {P : zP} {b w b' c : Nat} (h : b' ≠ b) : tLose P b w 4 b' c = P 4 b' c := by
  unfold tLose tVacate tVacateN
  rw [if_neg (by omega)]
  exact tTally_o (by omega)
theorem tMoved_bk {P : zP} {b b' c : Nat} {f t : Int32} : tMoved P b f t 4 b' c = P 4 b' c := tMovedN_lo (by omega)
/-- displace's loop over the bookings: row of numbers, and did -/
def tDispN (P : zP) (D : Nat → Int32) (s : Nat) (goes : Bool) (day to : Int32) : Nat → zP × (Nat → Int32)
  | 0 => (P, D)
  | b + 1 =>
    if P 4 b 0 = nI s ∧ P 4 b 4 = 0 then
      (if goes = false ∨ P 4 b 3 = 1 then (tLose (tDispN P D s goes day to b).1 b 2, upd (upd (tDispN P D s goes day to b).2 2 ((tDispN P D s goes day to b).2 2 + P 4 b 1)) 3 ((tDispN P D s goes day to b).2 3 + P 4 b 5))
       else (tMoved (tDispN P D s goes day to b).1 b day to, (tDispN P D s goes day to b).2))
    else tDispN P D s goes day to b
theorem tDispN_same {P : zP} {D : Nat → Int32} {s : Nat} {goes : Bool} {day to : Int32} : ∀ n, tSame P (tDispN P D s goes day to n).1
  | 0 => tSame.rf
  | n + 1 => by
    have ih := tDispN_same (P := P) (D := D) (s := s) (goes := goes) (day := day) (to := to) n
    unfold tDispN
    split
    · split
      · exact ih.tr tLose_same
      · exact ih.tr tMoved_same
    · exact ih
theorem tDispN_bk {P : zP} {D : Nat → Int32} {s : Nat} {goes : Bool} {day to : Int32} {b c : Nat} : ∀ n, n ≤ b → (tDispN P D s goes day to n).1 4 b c = P 4 b c
  | 0, _ => rfl
  | n + 1, h => by
    have ih := tDispN_bk (P := P) (D := D) (s := s) (goes := goes) (day := day) (to := to) (b := b) (c := c) n (by omega)
    unfold tDispN
    split
    · split
      · exact (tLose_bk (by omega)).trans ih
      · exact Eq.trans (tMoved_bk (P := (tDispN P D s goes day to n).1) (b := n) (f := day) (t := to)) ih
    · exact ih
def tDispTo (P : zP) (s : Nat) : Nat := tFirst P (6 * (P 3 s 1).toNatClampNeg + (P 3 s 2).toNatClampNeg + 1)
def tGoes (P : zP) (s : Nat) : Bool := decide (¬ P 3 s 1 + P 0 0 0 < nI (tDispTo P s / 6))
def tDisplace (P : zP) (D : Nat → Int32) (s : Nat) : zP × (Nat → Int32) :=
  if tGoes P s = true then
    (updP (updP (updP (tDispN P (upd D 0 (D 0 + 1)) s true (P 3 s 1) (nI (tDispTo P s / 6)) (pcn P 10)).1 3 s 1 (nI (tDispTo P s / 6))) 3 s 2 (nI (tDispTo P s % 6))) 3 s 6 (P 3 s 6 + 1), (tDispN P (upd D 0 (D 0 + 1)) s true (P 3 s 1) (nI (tDispTo P s / 6)) (pcn P 10)).2)
  else (updP (tDispN P (upd D 1 (D 1 + 1)) s false (P 3 s 1) (nI (tDispTo P s / 6)) (pcn P 10)).1 3 s 3 4, (tDispN P (upd D 1 (D 1 + 1)) s false (P 3 s 1) (nI (tDispTo P s / 6)) (pcn P 10)).2)
