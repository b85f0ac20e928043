/-! SPEC: the programme as numbers by sort, index, field; the t-functions mirror the reference's code -/
set_option maxRecDepth 100000
abbrev zP : Type := Nat → Nat → Nat → Int32
def updP (P : zP) (s i c : Nat) (v : Int32) : zP := fun s' i' c' => if s' = s ∧ i' = i ∧ c' = c then v else P s' i' c'
theorem updP_eq (P : zP) (s i c : Nat) (v : Int32) : updP P s i c v s i c = v := if_pos ⟨rfl, rfl, rfl⟩
theorem updP_ne {P : zP} {s i c s' i' c' : Nat} {v : Int32} (h : ¬ (s' = s ∧ i' = i ∧ c' = c)) : updP P s i c v s' i' c' = P s' i' c' := if_neg h
/-- sorts: 0 globals, 1 kinds, 2 lamps, 3 shows, 4 bookings, 5 events, 6 promises: base, width, how many -/
def tB (s : Nat) : Nat := match s with | 0 => 0 | 1 => 20 | 2 => 50 | 3 => 100 | 4 => 520 | 5 => 1800 | _ => 1860
def tW (s : Nat) : Nat := match s with | 0 => 20 | 1 => 3 | 2 => 4 | 3 => 7 | 4 => 16 | 5 => 3 | _ => 10
def tC (s : Nat) : Nat := match s with | 0 => 1 | 1 => 10 | 2 => 12 | 3 => 60 | 4 => 80 | 5 => 20 | _ => 12
def RepN (n : Nat → Int32) (P : zP) : Prop := ∀ s i c : Nat, s < 7 → i < tC s → c < tW s → n (tB s + tW s * i + c) = P s i c
theorem RepN.g {n : Nat → Int32} {P : zP} (h : RepN n P) {c : Nat} (hc : c < 20) : n c = P 0 0 c := by
  have := h 0 0 c (by omega) (by decide) hc
  simpa [tB, tW] using this
theorem RepN.ki {n : Nat → Int32} {P : zP} (h : RepN n P) {i c : Nat} (hi : i < 10) (hc : c < 3) : n (20 + 3 * i + c) = P 1 i c := h 1 i c (by omega) hi hc
theorem RepN.la {n : Nat → Int32} {P : zP} (h : RepN n P) {i c : Nat} (hi : i < 12) (hc : c < 4) : n (50 + 4 * i + c) = P 2 i c := h 2 i c (by omega) hi hc
theorem RepN.sh {n : Nat → Int32} {P : zP} (h : RepN n P) {i c : Nat} (hi : i < 60) (hc : c < 7) : n (100 + 7 * i + c) = P 3 i c := h 3 i c (by omega) hi hc
theorem RepN.bk {n : Nat → Int32} {P : zP} (h : RepN n P) {i c : Nat} (hi : i < 80) (hc : c < 16) : n (520 + 16 * i + c) = P 4 i c := h 4 i c (by omega) hi hc
theorem RepN.ev {n : Nat → Int32} {P : zP} (h : RepN n P) {i c : Nat} (hi : i < 20) (hc : c < 3) : n (1800 + 3 * i + c) = P 5 i c := h 5 i c (by omega) hi hc
theorem RepN.pr {n : Nat → Int32} {P : zP} (h : RepN n P) {i c : Nat} (hi : i < 12) (hc : c < 10) : n (1860 + 10 * i + c) = P 6 i c := h 6 i c (by omega) hi hc
theorem tPlace {s i c s' i' c' : Nat} (hs : s < 7) (hs' : s' < 7) (hi : i < tC s) (hi' : i' < tC s') (hc : c < tW s) (hc' : c' < tW s') (h : tB s + tW s * i + c = tB s' + tW s' * i' + c') : s = s' ∧ i = i' ∧ c = c' := by
  have h1 : s = 0 ∨ s = 1 ∨ s = 2 ∨ s = 3 ∨ s = 4 ∨ s = 5 ∨ s = 6 := by omega
  have h2 : s' = 0 ∨ s' = 1 ∨ s' = 2 ∨ s' = 3 ∨ s' = 4 ∨ s' = 5 ∨ s' = 6 := by omega
  rcases Nat.lt_trichotomy i i' with q | q | q <;> rcases h1 with rfl | rfl | rfl | rfl | rfl | rfl | rfl <;> rcases h2 with rfl | rfl | rfl | rfl | rfl | rfl | rfl <;> simp only [tB, tW, tC] at hi hi' hc hc' h <;> (refine ⟨?_, ?_, ?_⟩ <;> omega)
theorem RepN.upd {n : Nat → Int32} {P : zP} (h : RepN n P) {s i c : Nat} (hs : s < 7) (hi : i < tC s) (hc : c < tW s) (v : Int32) : RepN (upd n (tB s + tW s * i + c) v) (updP P s i c v) := by
  intro s' i' c' hs' hi' hc'
  by_cases e : s' = s ∧ i' = i ∧ c' = c
  · obtain ⟨rfl, rfl, rfl⟩ := e
    rw [updP_eq]
    exact pk_us
  · rw [updP_ne e, ← h s' i' c' hs' hi' hc']
    exact pk_un (fun z => e (by
      obtain ⟨a, b, d⟩ := tPlace hs' hs hi' hi hc' hc z
      exact ⟨a, b, d⟩))
/-- how many there are: 7 kinds, 8 lamps, 9 shows, 10 bookings, 11 events, 12 promises -/
def pcn (P : zP) (c : Nat) : Nat := (P 0 0 c).toNatClampNeg
def tcap (c : Nat) : Nat := match c with | 7 => 10 | 8 => 12 | 9 => 60 | 10 => 80 | 11 => 20 | _ => 12
def tOk (P : zP) : Prop := ∀ c : Nat, 7 ≤ c → c ≤ 12 → P 0 0 c = nI (pcn P c) ∧ pcn P c ≤ tcap c
theorem tOk.k {P : zP} (h : tOk P) : P 0 0 7 = nI (pcn P 7) ∧ pcn P 7 ≤ 10 := h 7 (by omega) (by omega)
theorem tOk.l {P : zP} (h : tOk P) : P 0 0 8 = nI (pcn P 8) ∧ pcn P 8 ≤ 12 := h 8 (by omega) (by omega)
theorem tOk.s {P : zP} (h : tOk P) : P 0 0 9 = nI (pcn P 9) ∧ pcn P 9 ≤ 60 := h 9 (by omega) (by omega)
theorem tOk.b {P : zP} (h : tOk P) : P 0 0 10 = nI (pcn P 10) ∧ pcn P 10 ≤ 80 := h 10 (by omega) (by omega)
theorem tOk.e {P : zP} (h : tOk P) : P 0 0 11 = nI (pcn P 11) ∧ pcn P 11 ≤ 20 := h 11 (by omega) (by omega)
theorem tOk.p {P : zP} (h : tOk P) : P 0 0 12 = nI (pcn P 12) ∧ pcn P 12 ≤ 12 := h 12 (by omega) (by omega)
/-- the counts stay where no count is written -/
theorem tOk.congr {P P' : zP} (h : tOk P) (e : ∀ c, 7 ≤ c → c ≤ 12 → P' 0 0 c = P 0 0 c) : tOk P' := by
  intro c h1 h2
  obtain ⟨g1, g2⟩ := h c h1 h2
  have e0 : pcn P' c = pcn P c := by unfold pcn; rw [e c h1 h2]
  rw [e0, e c h1 h2]
  exact ⟨g1, g2⟩
theorem pcn_upd {P : zP} {s i c : Nat} {v : Int32} {k : Nat} (h : ¬ (0 = s ∧ 0 = i ∧ k = c)) : pcn (updP P s i c v) k = pcn P k := by
  unfold pcn
  rw [updP_ne h]
theorem tOk.upd {P : zP} (h : tOk P) {s i c : Nat} {v : Int32} (hs : s ≠ 0 ∨ c < 7) : tOk (updP P s i c v) :=
  h.congr (fun k h1 h2 => updP_ne (by omega))
theorem tOk.cnt {P : zP} (h : tOk P) {c n : Nat} (h1 : 7 ≤ c) (h2 : c ≤ 12) (hn : n ≤ tcap c) : tOk (updP P 0 0 c (nI n)) := by
  intro k g1 g2
  by_cases e : k = c
  · subst e
    have hb : tcap k ≤ 80 := by
      have : k = 7 ∨ k = 8 ∨ k = 9 ∨ k = 10 ∨ k = 11 ∨ k = 12 := by omega
      rcases this with rfl | rfl | rfl | rfl | rfl | rfl <;> decide
    have e1 : pcn (updP P 0 0 k (nI n)) k = n := by
      unfold pcn
      rw [updP_eq]
      exact nI_clamp (by omega)
    rw [e1, updP_eq]
    exact ⟨rfl, hn⟩
  · rw [pcn_upd (by omega), updP_ne (by omega)]
    exact h k g1 g2
/-- the t-functions -/
def tFitted (P : zP) : Nat → Int32
  | 0 => -6
  | l + 1 => if P 2 l 2 = 1 then nI l else tFitted P l
def tFit (P : zP) : Int32 := tFitted P (pcn P 8)
def tEventAtF (P : zP) (day slot : Int32) : Nat → Int32
  | 0 => -6
  | e + 1 => if P 5 e 0 = day ∧ P 5 e 1 ≤ slot ∧ slot ≤ P 5 e 1 + P 5 e 2 - 1 then nI e else tEventAtF P day slot e
def tEventAt (P : zP) (day slot : Int32) : Int32 := tEventAtF P day slot (pcn P 11)
def tPlannedAtF (P : zP) (day slot : Int32) : Nat → Int32
  | 0 => -6
  | s + 1 => if P 3 s 3 = 0 ∧ P 3 s 1 = day ∧ P 3 s 2 = slot then nI s else tPlannedAtF P day slot s
def tPlannedAt (P : zP) (day slot : Int32) : Int32 := tPlannedAtF P day slot (pcn P 9)
abbrev tIsFree (P : zP) (day slot : Int32) : Prop := tEventAt P day slot < 0 ∧ tPlannedAt P day slot < 0
def tFreeInF (P : zP) (show_ : Int32) (row : Nat) : Nat → Int32
  | 0 => 12
  | b + 1 => tFreeInF P show_ row b - (if P 4 b 0 = show_ then P 4 b (8 + row) else 0)
def tFreeIn (P : zP) (show_ : Int32) (row : Nat) : Int32 := tFreeInF P show_ row (pcn P 10)
def tSumR (f : Nat → Int32) : Nat → Int32
  | 0 => 0
  | k + 1 => tSumR f k + f k
def tTaken (P : zP) (show_ : Int32) : Int32 := 96 - tSumR (tFreeIn P show_) 8
/-- the row from which seats come next: (the fitting row, the fullest) among the first k -/
def zLessR (f : Nat → Int32) (r : Option Nat) (k : Nat) : Bool := match r with
  | none => true
  | some j => decide (f k < f j)
def tRowF (f : Nat → Int32) (seats : Int32) : Nat → Option Nat × Nat
  | 0 => (none, 0)
  | k + 1 => (if seats ≤ f k ∧ zLessR f (tRowF f seats k).1 k = true then some k else (tRowF f seats k).1, if f (tRowF f seats k).2 < f k then k else (tRowF f seats k).2)
def tRow (f : Nat → Int32) (seats : Int32) : Nat := match (tRowF f seats 8).1 with
  | none => (tRowF f seats 8).2
  | some j => j
def zNo (r : Option Nat) : Int32 := match r with
  | none => -6
  | some j => nI j
