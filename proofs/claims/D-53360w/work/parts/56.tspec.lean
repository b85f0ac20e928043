/-! SPEC, part 3: seats; what an event did doesn't depend on what was told before; book, giveBack, event, promise, pass -/
set_option maxRecDepth 100000
def tSums (φ : Nat → Nat) : Nat → Nat
  | 0 => 0
  | n + 1 => tSums φ n + φ n
theorem tSumR_nI {f : Nat → Int32} {φ : Nat → Nat} : ∀ n, (∀ r, r < n → f r = nI (φ r)) → tSumR f n = nI (tSums φ n)
  | 0, _ => rfl
  | n + 1, h => by
    show tSumR f n + f n = nI (tSums φ n + φ n)
    rw [tSumR_nI n (fun r hr => h r (by omega)), h n (by omega), nI_add]
theorem tSums_le {φ : Nat → Nat} {B : Nat} : ∀ n, (∀ r, r < n → φ r ≤ B) → tSums φ n ≤ B * n
  | 0, _ => Nat.zero_le _
  | n + 1, h => by
    have h1 := tSums_le (φ := φ) (B := B) n (fun r hr => h r (by omega))
    have h2 := h n (by omega)
    show tSums φ n + φ n ≤ B * (n + 1)
    rw [Nat.mul_succ]
    omega
theorem tSums_congr {φ ψ : Nat → Nat} : ∀ n, (∀ r, r < n → φ r = ψ r) → tSums φ n = tSums ψ n
  | 0, _ => rfl
  | n + 1, h => by
    show tSums φ n + φ n = tSums ψ n + ψ n
    rw [tSums_congr n (fun r hr => h r (by omega)), h n (by omega)]
theorem tSums_upd {φ : Nat → Nat} {r v : Nat} (hv : v ≤ φ r) : ∀ n, r < n → tSums (fun j => if j = r then φ r - v else φ j) n + v = tSums φ n
  | 0, h => by omega
  | n + 1, h => by
    show tSums _ n + (if n = r then φ r - v else φ n) + v = tSums φ n + φ n
    by_cases e : n = r
    · subst e
      rw [if_pos rfl, tSums_congr n (ψ := φ) (fun j hj => by show (if j = n then _ else _) = _; rw [if_neg (by omega)])]
      omega
    · rw [if_neg e]
      have := tSums_upd hv n (by omega)
      omega
theorem tSums_pos {φ : Nat → Nat} : ∀ n, 0 < tSums φ n → ∃ r, r < n ∧ 0 < φ r
  | 0, h => by cases h
  | n + 1, h => by
    by_cases e : 0 < φ n
    · exact ⟨n, by omega, e⟩
    · have h' : 0 < tSums φ n + φ n := h
      obtain ⟨r, h1, h2⟩ := tSums_pos (φ := φ) n (by omega)
      exact ⟨r, by omega, h2⟩
/-- the row that is chosen isn't empty -/
theorem tRowF_big {f : Nat → Int32} {φ : Nat → Nat} {l : Nat} (hl : l ≤ 40) : ∀ k, (∀ r, r < k → f r = nI (φ r) ∧ φ r ≤ 12) → (∀ j, (tRowF f (nI l) k).1 = some j → l ≤ φ j) ∧ ∀ r, r < k → φ r ≤ φ (tRowF f (nI l) k).2
  | 0, _ => ⟨fun j h => by (cases h), fun r hr => by omega⟩
  | k + 1, h => by
    obtain ⟨h1, h2⟩ := tRowF_big (f := f) (φ := φ) hl k (fun r hr => h r (by omega))
    obtain ⟨l1, l2⟩ := tRowF_lt f (nI l) k
    obtain ⟨ek, bk⟩ := h k (by omega)
    refine ⟨fun j hj => ?_, fun r hr => ?_⟩
    · unfold tRowF at hj
      dsimp only at hj
      by_cases g : nI l ≤ f k ∧ zLessR f (tRowF f (nI l) k).1 k = true
      · rw [if_pos g] at hj
        cases hj
        rw [ek] at g
        exact (nI_leI (by omega) (by omega)).mp g.1
      · rw [if_neg g] at hj
        exact h1 j hj
    · show φ r ≤ φ (if f (tRowF f (nI l) k).2 < f k then k else (tRowF f (nI l) k).2)
      by_cases hk0 : k = 0
      · subst hk0
        have e0 : (tRowF f (nI l) 0).2 = 0 := rfl
        rw [e0, ite_self, show r = 0 by omega]
        exact Nat.le_refl _
      · obtain ⟨em, bm⟩ := h (tRowF f (nI l) k).2 (by omega)
        by_cases g : f (tRowF f (nI l) k).2 < f k
        · rw [if_pos g]
          rw [ek, em] at g
          have g2 := (nI_ltI (by omega) (by omega)).mp g
          by_cases e : r = k
          · rw [e]; exact Nat.le_refl _
          · have := h2 r (by omega); omega
        · rw [if_neg g]
          rw [ek, em] at g
          by_cases e : r = k
          · rw [e]
            have : ¬ φ (tRowF f (nI l) k).2 < φ k := fun q => g ((nI_ltI (by omega) (by omega)).mpr q)
            omega
          · exact h2 r (by omega)
theorem tRow_pos {f : Nat → Int32} {φ : Nat → Nat} {l : Nat} (hl : l ≤ 40) (h : ∀ r, r < 8 → f r = nI (φ r) ∧ φ r ≤ 12) (h0 : 0 < l) (hs : l ≤ tSums φ 8) : 0 < φ (tRow f (nI l)) := by
  obtain ⟨h1, h2⟩ := tRowF_big hl 8 h
  unfold tRow
  cases hq : (tRowF f (nI l) 8).1 with
  | none =>
    obtain ⟨r, hr, hp⟩ := tSums_pos 8 (show 0 < tSums φ 8 by omega)
    have := h2 r hr
    show 0 < φ (tRowF f (nI l) 8).2
    omega
  | some j =>
    have := h1 j hq
    show 0 < φ j
    omega
/-- how many seats the next row gives -/
def tSome (f : Nat → Int32) (left : Int32) : Int32 := if f (tRow f left) < left then f (tRow f left) else left
/-- seats are given: what is free, what is taken by rows -/
def tSeatN : Nat → (Nat → Int32) → (Nat → Int32) → Int32 → (Nat → Int32) × (Nat → Int32)
  | 0, f, g, _ => (f, g)
  | n + 1, f, g, left => if left ≤ 0 then (f, g) else tSeatN n (upd f (tRow f left) (f (tRow f left) - tSome f left)) (upd g (tRow f left) (g (tRow f left) + tSome f left)) (left - tSome f left)
theorem tSeatN_congr : ∀ n (f f' g : Nat → Int32) (left : Int32), (∀ r, r < 8 → f r = f' r) → (tSeatN n f g left).2 = (tSeatN n f' g left).2 ∧ ∀ r, r < 8 → (tSeatN n f g left).1 r = (tSeatN n f' g left).1 r
  | 0, _, _, _, _, h => ⟨rfl, h⟩
  | n + 1, f, f', g, left, h => by
    have er : tRow f left = tRow f' left := tRow_congr h
    have ef : f (tRow f' left) = f' (tRow f' left) := h _ (tRow_lt _ _)
    have es : tSome f left = tSome f' left := by unfold tSome; rw [er, ef]
    unfold tSeatN
    by_cases hl : left ≤ 0
    · rw [if_pos hl, if_pos hl]; exact ⟨rfl, h⟩
    · rw [if_neg hl, if_neg hl, er, es, ef]
      refine tSeatN_congr n _ _ _ _ (fun r hr => ?_)
      by_cases e : r = tRow f' left
      · rw [e, pk_us, pk_us]
      · rw [pk_un e, pk_un e]; exact h r hr
/-- a step of the seating: the numbers stay good -/
def tSeatOk (f : Nat → Int32) (φ : Nat → Nat) (l : Nat) : Prop := (∀ r, r < 8 → f r = nI (φ r) ∧ φ r ≤ 12) ∧ l ≤ 40 ∧ l ≤ tSums φ 8
theorem tSeatOk.step {f : Nat → Int32} {φ : Nat → Nat} {l : Nat} (h : tSeatOk f φ l) (h0 : 0 < l) : ∃ k, 0 < k ∧ k ≤ l ∧ k ≤ φ (tRow f (nI l)) ∧ tSome f (nI l) = nI k ∧ nI l - tSome f (nI l) = nI (l - k) ∧ tSeatOk (upd f (tRow f (nI l)) (f (tRow f (nI l)) - tSome f (nI l))) (fun j => if j = tRow f (nI l) then φ (tRow f (nI l)) - k else φ j) (l - k) := by
  obtain ⟨h1, h2, h3⟩ := h
  have hr := tRow_lt f (nI l)
  have hp := tRow_pos h2 h1 h0 h3
  obtain ⟨e1, b1⟩ := h1 _ hr
  have key : ∃ k, 0 < k ∧ k ≤ l ∧ k ≤ φ (tRow f (nI l)) ∧ tSome f (nI l) = nI k := by
    unfold tSome
    by_cases g : f (tRow f (nI l)) < nI l
    · rw [if_pos g]
      rw [e1] at g
      exact ⟨_, hp, by have := (nI_ltI (by omega) (by omega)).mp g; omega, Nat.le_refl _, e1⟩
    · rw [if_neg g]
      rw [e1] at g
      refine ⟨l, h0, Nat.le_refl _, ?_, rfl⟩
      have : ¬ φ (tRow f (nI l)) < l := fun q => g ((nI_ltI (by omega) (by omega)).mpr q)
      omega
  obtain ⟨k, k1, k2, k3, k4⟩ := key
  refine ⟨k, k1, k2, k3, k4, by rw [k4, pk_sub k2], ?_, by omega, ?_⟩
  · intro r hr'
    by_cases e : r = tRow f (nI l)
    · subst e
      dsimp only
      rw [pk_us, if_pos rfl, k4, e1, pk_sub k3]
      exact ⟨rfl, by omega⟩
    · dsimp only
      rw [pk_un e, if_neg e]
      exact h1 r hr'
  · have := tSums_upd k3 8 hr
    omega
/-- rows of a booking -/
def tRows (Q : zP) (b n : Nat) (g : Nat → Int32) : zP := fun s i c => if s = 4 ∧ i = b ∧ 8 ≤ c ∧ c < 8 + n then g (c - 8) else Q s i c
theorem tRows_o {Q : zP} {b n s i c : Nat} {g : Nat → Int32} (h : s ≠ 4 ∨ i ≠ b ∨ c < 8) : tRows Q b n g s i c = Q s i c := by
  unfold tRows; rw [if_neg (by omega)]
theorem tRows_0 {Q : zP} {b : Nat} {g : Nat → Int32} : tRows Q b 0 g = Q := by
  funext s i c; unfold tRows; rw [if_neg (by omega)]
theorem tRows_s {Q : zP} {b n : Nat} {g : Nat → Int32} : updP (tRows Q b n g) 4 b (8 + n) (g n) = tRows Q b (n + 1) g := by
  funext s i c
  by_cases e : s = 4 ∧ i = b ∧ c = 8 + n
  · obtain ⟨rfl, rfl, rfl⟩ := e
    rw [updP_eq]; unfold tRows
    rw [if_pos ⟨rfl, rfl, by omega, by omega⟩]
    congr 1; omega
  · rw [updP_ne e]; unfold tRows
    by_cases g1 : s = 4 ∧ i = b ∧ 8 ≤ c ∧ c < 8 + n
    · rw [if_pos g1, if_pos ⟨g1.1, g1.2.1, g1.2.2.1, by omega⟩]
    · rw [if_neg g1, if_neg (by omega)]
theorem tRows_u {Q : zP} {b r n : Nat} {g : Nat → Int32} {v : Int32} (hr : r < n) : updP (tRows Q b n g) 4 b (8 + r) v = tRows Q b n (upd g r v) := by
  funext s i c
  by_cases e : s = 4 ∧ i = b ∧ c = 8 + r
  · obtain ⟨rfl, rfl, rfl⟩ := e
    rw [updP_eq]; unfold tRows
    rw [if_pos ⟨rfl, rfl, by omega, by omega⟩, show 8 + r - 8 = r by omega, pk_us]
  · rw [updP_ne e]; unfold tRows
    by_cases g1 : s = 4 ∧ i = b ∧ 8 ≤ c ∧ c < 8 + n
    · rw [if_pos g1, if_pos g1, pk_un (by omega)]
    · rw [if_neg g1, if_neg g1]
def tCost (P : zP) (s : Nat) (seats school : Int32) : Int32 := seats * (if 0 ≤ school then P 1 (tKd P s) 2 * P 0 0 4 / 100 else P 1 (tKd P s) 2)
def tBk0 (P : zP) (s : Nat) (seats school bound : Int32) : zP := updP (updP (updP (updP (updP (updP (updP (updP P 4 (pcn P 10) 0 (nI s)) 4 (pcn P 10) 1 seats) 4 (pcn P 10) 2 school) 4 (pcn P 10) 3 bound) 4 (pcn P 10) 4 0) 4 (pcn P 10) 5 (tCost P s seats school)) 4 (pcn P 10) 6 0) 4 (pcn P 10) 7 0
def tSeat (P : zP) (s : Nat) (seats : Int32) : (Nat → Int32) × (Nat → Int32) := tSeatN 41 (tFreeIn P (nI s)) (fun _ => 0) seats
def tBookAdd (P : zP) (s : Nat) (seats school bound : Int32) : zP := updP (tRows (tBk0 P s seats school bound) (pcn P 10) 8 (tSeat P s seats).2) 0 0 10 (nI (pcn P 10 + 1))
def tBookC (P : zP) (R : tR) (sh seats school bound : Int32) : tT :=
  if 0 ≤ sh ∧ sh ≤ P 0 0 9 - 1 then
    if (1 ≤ seats ∧ seats ≤ 40) ∧ (school = -6 ∨ (0 ≤ school ∧ school ≤ 5)) ∧ (0 ≤ bound ∧ bound ≤ 1) then
      if P 0 0 10 = 80 then (P, R, -4)
      else if P 3 sh.toNatClampNeg 3 = 0 ∧ tTaken P sh + seats ≤ 96 then (tBookAdd P sh.toNatClampNeg seats school bound, tRec P R, nI (pcn P 10)) else (P, R, -5)
    else (P, R, -2)
  else (P, R, -1)
def tBack (P : zP) (b : Nat) : Int32 := if P 0 0 1 ≤ P 3 (tSh P b) 1 - P 0 0 6 then P 4 b 5 else if 0 < P 3 (tSh P b) 1 - P 0 0 6 then P 4 b 5 * P 0 0 2 / 100 else 0
def tGiveC (P : zP) (R : tR) (x : Int32) : tT :=
  if 0 ≤ x ∧ x ≤ P 0 0 10 - 1 then
    if P 4 x.toNatClampNeg 4 = 0 then (tVacate (tTally P x.toNatClampNeg 4) x.toNatClampNeg 3 (tBack P x.toNatClampNeg), tRec P R, tBack P x.toNatClampNeg) else (P, R, -5)
  else (P, R, -1)
/-- nothing told -/
def tZ : Nat → Int32 := fun _ => 0
def tEq4 (D D' : Nat → Int32) : Prop := ∀ j, j < 4 → D j = D' j
theorem tEq4.upd {D D' : Nat → Int32} (h : tEq4 D D') {j : Nat} {v v' : Int32} (e : v = v') : tEq4 (upd D j v) (upd D' j v') := by
  subst e
  intro k hk
  by_cases g : k = j
  · rw [g, pk_us, pk_us]
  · rw [pk_un g, pk_un g]; exact h k hk
theorem tDispN_D {P : zP} {D D' : Nat → Int32} {s : Nat} {goes : Bool} {day to : Int32} (h : tEq4 D D') : ∀ n, (tDispN P D s goes day to n).1 = (tDispN P D' s goes day to n).1 ∧ tEq4 (tDispN P D s goes day to n).2 (tDispN P D' s goes day to n).2
  | 0 => ⟨rfl, h⟩
  | n + 1 => by
    obtain ⟨h1, h2⟩ := tDispN_D (P := P) (s := s) (goes := goes) (day := day) (to := to) h n
    unfold tDispN
    split
    · split
      · rw [h1]
        refine ⟨rfl, ?_⟩
        have e2 := h2 2 (by omega)
        have e3 := h2 3 (by omega)
        exact (h2.upd (by rw [e2])).upd (by rw [e3])
      · rw [h1]; exact ⟨rfl, h2⟩
    · exact ⟨h1, h2⟩
theorem tDisplace_D {P : zP} {D D' : Nat → Int32} {s : Nat} (h : tEq4 D D') : (tDisplace P D s).1 = (tDisplace P D' s).1 ∧ tEq4 (tDisplace P D s).2 (tDisplace P D' s).2 := by
  unfold tDisplace
  split
  · obtain ⟨h1, h2⟩ := tDispN_D (P := P) (s := s) (goes := true) (day := P 3 s 1) (to := nI (tDispTo P s / 6)) (h.upd (j := 0) (v := D 0 + 1) (v' := D' 0 + 1) (by rw [h 0 (by omega)])) (pcn P 10)
    exact ⟨by rw [h1], h2⟩
  · obtain ⟨h1, h2⟩ := tDispN_D (P := P) (s := s) (goes := false) (day := P 3 s 1) (to := nI (tDispTo P s / 6)) (h.upd (j := 1) (v := D 1 + 1) (v' := D' 1 + 1) (by rw [h 1 (by omega)])) (pcn P 10)
    exact ⟨by rw [h1], h2⟩
theorem tTellN_D {P : zP} {D D' : Nat → Int32} {day : Int32} {slot : Nat} (h : tEq4 D D') : ∀ n, (tTellN P D day slot n).1 = (tTellN P D' day slot n).1 ∧ tEq4 (tTellN P D day slot n).2 (tTellN P D' day slot n).2
  | 0 => ⟨rfl, h⟩
  | n + 1 => by
    obtain ⟨h1, h2⟩ := tTellN_D (P := P) (day := day) (slot := slot) h n
    unfold tTellN
    rw [h1]
    split
    · exact ⟨h1, h2⟩
    · exact tDisplace_D h2
theorem tTell_D {P : zP} (D : Nat → Int32) {day : Int32} {slot many : Nat} : (tTell P D day slot many).1 = (tTell P tZ day slot many).1 ∧ tEq4 (tTell P D day slot many).2 (tTell P tZ day slot many).2 :=
  tTellN_D (fun j hj => by show (if j < 4 then _ else _) = (if j < 4 then _ else _); rw [if_pos hj, if_pos hj]) many
theorem tCloseN_D {P : zP} {D D' : Nat → Int32} {s : Nat} {st : Int32} : ∀ n, (tCloseN P D s st n).1 = (tCloseN P D' s st n).1
  | 0 => rfl
  | n + 1 => by
    have h1 := tCloseN_D (P := P) (D := D) (D' := D') (s := s) (st := st) n
    unfold tCloseN
    split
    · split
      · rw [h1]
      · rw [h1]
    · exact h1
theorem tHold_D {P : zP} {D D' : Nat → Int32} {s : Nat} : (tHold P D s).1 = (tHold P D' s).1 := by
  unfold tHold tHoldLit tHeld tClose
  split
  · dsimp only
    rw [tCloseN_D (D := D) (D' := D')]
  · exact tCloseN_D _
theorem tSlotN_D {P : zP} {D D' : Nat → Int32} : ∀ n, (tSlotN P D n).1 = (tSlotN P D' n).1
  | 0 => rfl
  | n + 1 => by
    have h1 := tSlotN_D (P := P) (D := D) (D' := D') n
    unfold tSlotN
    rw [h1]
    split
    · exact h1
    · exact tHold_D
theorem tPass_D {P : zP} (D : Nat → Int32) : (tPass P D).1 = (tPass P tZ).1 := by
  unfold tPass
  dsimp only
  rw [tSlotN_D (D := D) (D' := tZ)]
/-- days go by -/
def tDays (P : zP) : Nat → zP
  | 0 => P
  | n + 1 => (tPass (tDays P n) tZ).1
def tEventC (P : zP) (R : tR) (d s m : Int32) : tT :=
  if tBar P d s m < 0 then (P, R, tBar P d s m)
  else ((tTell P tZ d s.toNatClampNeg m.toNatClampNeg).1, tRec P R, (tTell P tZ d s.toNatClampNeg m.toNatClampNeg).2 0 + (tTell P tZ d s.toNatClampNeg m.toNatClampNeg).2 1)
def tHasProm (P : zP) (school kind : Int32) : Nat → Bool
  | 0 => false
  | p + 1 => tHasProm P school kind p || decide (P 6 p 0 = school ∧ P 6 p 1 = kind ∧ P 6 p 4 = 0)
/-- fields of a promise from the fourth on are nothing -/
def tPz (Q : zP) (p n : Nat) : zP := fun s i c => if s = 6 ∧ i = p ∧ 4 ≤ c ∧ c < 4 + n then 0 else Q s i c
theorem tPz_o {Q : zP} {p n s i c : Nat} (h : s ≠ 6 ∨ i ≠ p ∨ c < 4) : tPz Q p n s i c = Q s i c := by
  unfold tPz; rw [if_neg (by omega)]
theorem tPz_0 {Q : zP} {p : Nat} : tPz Q p 0 = Q := by
  funext s i c; unfold tPz; rw [if_neg (by omega)]
theorem tPz_s {Q : zP} {p n : Nat} : updP (tPz Q p n) 6 p (4 + n) 0 = tPz Q p (n + 1) := by
  funext s i c
  by_cases e : s = 6 ∧ i = p ∧ c = 4 + n
  · obtain ⟨rfl, rfl, rfl⟩ := e
    rw [updP_eq]; unfold tPz
    rw [if_pos ⟨rfl, rfl, by omega, by omega⟩]
  · rw [updP_ne e]; unfold tPz
    by_cases g1 : s = 6 ∧ i = p ∧ 4 ≤ c ∧ c < 4 + n
    · rw [if_pos g1, if_pos ⟨g1.1, g1.2.1, g1.2.2.1, by omega⟩]
    · rw [if_neg g1, if_neg (by omega)]
def tPromAdd (P : zP) (school kind seats last : Int32) : zP := updP (tPz (updP (updP (updP (updP P 6 (pcn P 12) 0 school) 6 (pcn P 12) 1 kind) 6 (pcn P 12) 2 seats) 6 (pcn P 12) 3 last) (pcn P 12) 6) 0 0 12 (nI (pcn P 12 + 1))
def tPromC (P : zP) (R : tR) (school kind seats last : Int32) : tT :=
  if (0 ≤ school ∧ school ≤ 5) ∧ (1 ≤ seats ∧ seats ≤ 200) ∧ (P 0 0 6 ≤ last ∧ last ≤ P 0 0 6 + 60) then
    if 0 ≤ kind ∧ kind ≤ P 0 0 7 - 1 then
      if P 0 0 12 = 12 then (P, R, -4)
      else if tHasProm P school kind (pcn P 12) = true then (P, R, -5) else (tPromAdd P school kind seats last, tRec P R, nI (pcn P 12))
    else (P, R, -1)
  else (P, R, -2)
def tPassC (P : zP) (R : tR) (x : Int32) : tT :=
  if 1 ≤ x ∧ x ≤ 30 then
    if P 0 0 6 + x ≤ 900 then (tDays P x.toNatClampNeg, tRec P R, tShowsIn (tDays P x.toNatClampNeg) 1 - tShowsIn P 1) else (P, R, -5)
  else (P, R, -2)
/-- what the twin's calls need of the row of numbers -/
def tPI (P : zP) : Prop := tDI P ∧ tTimes P ∧ (∃ mv, mv ≤ 14 ∧ P 0 0 0 = nI mv) ∧ (∃ t, t ≤ 990 ∧ P 0 0 6 = nI t) ∧ ∀ s, s < pcn P 9 → ∀ r, r < 8 → tNum (tFreeIn P (nI s) r) 13
