/-! PURE: a hash map's bins as lists, a bin's tree by intervals -/
set_option maxRecDepth 100000
theorem i_tn {n : Nat} (h : n < 2 ^ 32) : (UInt32.ofNat n).toNat = n := Nat.mod_eq_of_lt h
theorem i_and {a b c : Nat} (ha : a < 2 ^ 32) (hb : b < 2 ^ 32) (hc : a &&& b = c) : nI a &&& nI b = nI c := by
  subst hc
  have h : UInt32.ofNat a &&& UInt32.ofNat b = UInt32.ofNat (a &&& b) := UInt32.toNat_inj.mp (by rw [UInt32.toNat_and, i_tn ha, i_tn hb, i_tn (Nat.and_lt_two_pow a hb)])
  have h2 := congrArg UInt32.toInt32 h
  exact h2
theorem i_mask {h k n : Nat} (hn : 2 ^ k = n) (hk : k < 31) (hh : h < 2 ^ 31) : nI (n - 1) &&& nI h = nI (h % n) := by
  subst hn
  have := Nat.pow_lt_pow_right (show 1 < 2 by decide) hk
  exact i_and (by omega) (by omega) (by rw [Nat.and_comm]; exact Nat.and_two_pow_sub_one_eq_mod h k)
theorem i_bit0 {h k n : Nat} (hn : 2 ^ k = n) : (h &&& n = 0) ↔ h / n % 2 = 0 := by
  subst hn
  have e : h.testBit k = decide (h / 2 ^ k % 2 = 1) := Nat.testBit_eq_decide_div_mod_eq
  constructor
  · intro q
    have h1 : (h &&& 2 ^ k).testBit k = false := by rw [q]; exact Nat.zero_testBit k
    rw [Nat.testBit_and, Nat.testBit_two_pow_self, Bool.and_true, e] at h1
    have := of_decide_eq_false h1
    omega
  · intro q
    apply Nat.eq_of_testBit_eq
    intro i
    rw [Nat.testBit_and, Nat.testBit_two_pow, Nat.zero_testBit]
    by_cases hi : k = i
    · subst hi
      rw [e, decide_eq_false (by omega)]
      rfl
    · rw [decide_eq_false hi, Bool.and_false]
theorem i_bit {h k n : Nat} (hn : 2 ^ k = n) (hk : k < 31) (hh : h < 2 ^ 31) : nI h &&& nI n = 0 ↔ h / n % 2 = 0 := by
  have hp := Nat.pow_lt_pow_right (show 1 < 2 by decide) hk
  have hlt : h &&& n < 2 ^ 31 := Nat.and_lt_two_pow h (by omega)
  rw [i_and (by omega) (by omega) rfl, ← i_bit0 hn]
  exact nI_eq (b := 0) hlt (by decide)
theorem i_half {h n : Nat} : (h / n % 2 = 0 → h % (2 * n) = h % n) ∧ (¬ h / n % 2 = 0 → h % (2 * n) = h % n + n) := by
  have e : h % (2 * n) = h % n + n * (h / n % 2) := by rw [Nat.mul_comm]; exact Nat.mod_mul
  constructor
  · intro q
    rw [e, q]; omega
  · intro q
    have : h / n % 2 = 1 := by omega
    rw [e, this]; omega
/-- hash's spread does nothing to small numbers -/
theorem i_spread {h : Nat} (hh : h < 65536) : ((nI h).toUInt32 >>> ((16 : Int32).toUInt32 &&& Int32.toUInt32 31)).toInt32 = 0 := by
  rw [pk_ushrN (n := h) (by omega) 16 16 (by decide), show h / 2 ^ 16 = 0 by omega]
  rfl
/-! ## lists of links -/
/-- each element's nx is the one behind it -/
def zCh (nx : Nat → Option Nat) : List Nat → Prop
  | [] => True
  | x :: l => nx x = l.head? ∧ zCh nx l
/-- .. read backwards: the first's nx isn't yet told -/
def zRl (nx : Nat → Option Nat) : List Nat → Prop
  | [] => True
  | x :: l => (∀ y, l.head? = some y → nx y = some x) ∧ zRl nx l
theorem zCh.congr {nx nx' : Nat → Option Nat} : ∀ {l : List Nat}, zCh nx l → (∀ x, x ∈ l → nx' x = nx x) → zCh nx' l
  | [], _, _ => trivial
  | x :: l, h, e => ⟨(e x List.mem_cons_self).trans h.1, h.2.congr (fun y hy => e y (List.mem_cons_of_mem _ hy))⟩
theorem zRl.congr {nx nx' : Nat → Option Nat} : ∀ {l : List Nat} {x : Nat}, zRl nx (x :: l) → (∀ y, y ∈ l → nx' y = nx y) → zRl nx' (x :: l)
  | [], _, _, _ => ⟨fun y hy => by (cases hy), trivial⟩
  | z :: l, x, h, e => ⟨fun y hy => by
      cases hy
      exact (e z List.mem_cons_self).trans (h.1 z rfl), h.2.congr (fun y hy => e y (List.mem_cons_of_mem _ hy))⟩
theorem zRl.ch {nx : Nat → Option Nat} : ∀ {l acc : List Nat}, zRl nx l → (∀ x, l.head? = some x → nx x = acc.head?) → zCh nx acc → zCh nx (l.reverse ++ acc)
  | [], _, _, _, h => h
  | x :: l, acc, h, e, hc => by
    rw [List.reverse_cons, List.append_assoc]
    exact h.2.ch (l := l) (acc := x :: acc) (fun y hy => h.1 y hy) ⟨e x rfl, hc⟩
/-- an element behind the last -/
theorem zRl.push {nx : Nat → Option Nat} {l : List Nat} {e : Nat} (h : zRl nx l) (hn : l.Nodup) : zRl (match l.head? with
    | none => nx
    | some y => va_up nx y (some e)) (e :: l) := by
  cases l with
  | nil => exact ⟨fun y hy => by (cases hy), trivial⟩
  | cons y l =>
    have hy := (List.nodup_cons.mp hn).1
    refine ⟨fun z hz => ?_, h.congr (fun z hz => va_up_ne _ _ (fun q => hy (q ▸ hz)))⟩
    cases hz
    exact va_up_self _ _ _
/-- the end is cut: the list forward -/
theorem zRl.cut {nx : Nat → Option Nat} {l : List Nat} (h : zRl nx l) (hn : l.Nodup) : zCh (match l.head? with
    | none => nx
    | some y => va_up nx y none) l.reverse := by
  cases l with
  | nil => trivial
  | cons y l =>
    have hy := (List.nodup_cons.mp hn).1
    have h1 : zRl (va_up nx y none) (y :: l) := h.congr (fun z hz => va_up_ne _ _ (fun q => hy (q ▸ hz)))
    have := h1.ch (acc := []) (fun z hz => by cases hz; exact va_up_self _ _ _) trivial
    rw [List.append_nil] at this
    exact this
/-- a new last element -/
theorem zCh.snoc {nx : Nat → Option Nat} {h : Nat} : ∀ {l : List Nat} {y : Nat}, zCh nx (l ++ [y]) → (l ++ [y]).Nodup → h ∉ l ++ [y] → zCh (va_up (va_up nx h none) y (some h)) (l ++ [y] ++ [h])
  | [], y, _, _, hh => by
    have hne : h ≠ y := fun q => hh (q ▸ List.mem_cons_self)
    exact ⟨va_up_self _ _ _, (va_up_ne _ _ hne).trans (va_up_self _ _ _), trivial⟩
  | x :: l, y, hc, hn, hh => by
    have hn' := List.nodup_cons.mp hn
    have hxy : x ≠ y := fun q => hn'.1 (q ▸ List.mem_append_right _ List.mem_cons_self)
    have hxh : x ≠ h := fun q => hh (q ▸ List.mem_cons_self)
    refine ⟨?_, zCh.snoc (l := l) hc.2 hn'.2 (fun q => hh (List.mem_cons_of_mem _ q))⟩
    rw [va_up_ne _ _ hxy, va_up_ne _ _ hxh, hc.1]
    simp
/-- an element leaves -/
theorem zCh.drop {nx : Nat → Option Nat} {x y : Nat} {l2 : List Nat} : ∀ {l1 : List Nat}, zCh nx (l1 ++ x :: y :: l2) → (l1 ++ x :: y :: l2).Nodup → zCh (va_up nx x (nx y)) (l1 ++ x :: l2)
  | [], hc, hn => by
    have hx := (List.nodup_cons.mp hn).1
    have hyl := hc.2.1
    refine ⟨by rw [va_up_self]; exact hyl, hc.2.2.congr (fun z hz => va_up_ne _ _ (fun q => hx (q ▸ List.mem_cons_of_mem _ hz)))⟩
  | z :: l1, hc, hn => by
    have hn' := List.nodup_cons.mp hn
    have hzx : z ≠ x := fun q => hn'.1 (q ▸ List.mem_append_right _ List.mem_cons_self)
    refine ⟨?_, zCh.drop (l1 := l1) hc.2 hn'.2⟩
    rw [va_up_ne _ _ hzx, hc.1]
    cases l1 <;> rfl
/-- prev: each element's pv is the one ahead of it -/
def zPv (pv : Nat → Option Nat) : Option Nat → List Nat → Prop
  | _, [] => True
  | a, x :: l => pv x = a ∧ zPv pv (some x) l
theorem zPv.congr {pv pv' : Nat → Option Nat} : ∀ {l : List Nat} {a : Option Nat}, zPv pv a l → (∀ x, x ∈ l → pv' x = pv x) → zPv pv' a l
  | [], _, _, _ => trivial
  | x :: l, _, h, e => ⟨(e x List.mem_cons_self).trans h.1, h.2.congr (fun y hy => e y (List.mem_cons_of_mem _ hy))⟩
theorem zPv.app {pv : Nat → Option Nat} : ∀ {l1 l2 : List Nat} {a : Option Nat}, zPv pv a (l1 ++ l2) ↔ zPv pv a l1 ∧ zPv pv (l1.getLast?.or a) l2
  | [], l2, a => by
    show zPv pv a l2 ↔ True ∧ zPv pv a l2
    exact ⟨fun h => ⟨trivial, h⟩, fun h => h.2⟩
  | x :: l1, l2, a => by
    show pv x = a ∧ zPv pv (some x) (l1 ++ l2) ↔ (pv x = a ∧ zPv pv (some x) l1) ∧ _
    rw [zPv.app (l1 := l1) (l2 := l2) (a := some x), and_assoc]
    have e : ((x :: l1).getLast?.or a) = (l1.getLast?.or (some x)) := by
      cases l1 with
      | nil => rfl
      | cons y l =>
        rw [List.getLast?_cons_cons]
        cases hq : (y :: l).getLast? with
        | none => simp at hq
        | some z => rfl
    rw [e]
/-! ## trees -/
/-- T: the nodes; κ: the order; pa, le, ri: the links; (a, b): the interval that a node's subtree covers -/
def zTree (T : Nat → Prop) (κ : Nat → Int) (pa le ri : Nat → Option Nat) (a b : Nat → Int) : Prop := ∀ x, T x →
  (a x < κ x ∧ κ x < b x ∧ -100000 ≤ a x ∧ b x ≤ 100000) ∧
  (∀ y, le x = some y → T y ∧ pa y = some x ∧ a y = a x ∧ b y = κ x) ∧
  (le x = none → ∀ k, T k → ¬ (a x < κ k ∧ κ k < κ x)) ∧
  (∀ y, ri x = some y → T y ∧ pa y = some x ∧ a y = κ x ∧ b y = b x) ∧
  (ri x = none → ∀ k, T k → ¬ (κ x < κ k ∧ κ k < b x)) ∧
  (pa x = none → a x = -100000 ∧ b x = 100000) ∧
  (∀ p, pa x = some p → T p ∧ (le p = some x ∨ ri p = some x))
theorem zTree.mirror {T : Nat → Prop} {κ : Nat → Int} {pa le ri : Nat → Option Nat} {a b : Nat → Int} (h : zTree T κ pa le ri a b) : zTree T (fun x => -κ x) pa ri le (fun x => -b x) (fun x => -a x) := by
  intro x hx
  obtain ⟨h1, h2, h3, h4, h5, h6, h7⟩ := h x hx
  refine ⟨⟨by (dsimp only; omega), by (dsimp only; omega), by (dsimp only; omega), by (dsimp only; omega)⟩, fun y hy => ?_, fun hn k hk q => ?_, fun y hy => ?_, fun hn k hk q => ?_, fun hn => ?_, fun p hp => ?_⟩
  · obtain ⟨g1, g2, g3, g4⟩ := h4 y hy
    exact ⟨g1, g2, by (dsimp only; omega), by (dsimp only; omega)⟩
  · dsimp only at q
    exact h5 hn k hk ⟨by omega, by omega⟩
  · obtain ⟨g1, g2, g3, g4⟩ := h2 y hy
    exact ⟨g1, g2, by (dsimp only; omega), by (dsimp only; omega)⟩
  · dsimp only at q
    exact h3 hn k hk ⟨by omega, by omega⟩
  · have := h6 hn
    exact ⟨show -b x = -100000 by omega, show -a x = 100000 by omega⟩
  · obtain ⟨g1, g2⟩ := h7 p hp
    exact ⟨g1, g2.symm⟩
/-- a rotation to the left at p, whose right child is r -/
def zRpa (pa le : Nat → Option Nat) (p r : Nat) : Nat → Option Nat := fun x => if x = p then some r else if x = r then pa p else if le r = some x then some p else pa x
def zRle (pa le : Nat → Option Nat) (p r : Nat) : Nat → Option Nat := fun x => if x = r then some p else if pa p = some x ∧ le x = some p then some r else le x
def zRri (pa le ri : Nat → Option Nat) (p r : Nat) : Nat → Option Nat := fun x => if x = p then le r else if pa p = some x ∧ ¬ le x = some p then some r else ri x
theorem zTree.rot {T : Nat → Prop} {κ : Nat → Int} {pa le ri : Nat → Option Nat} {a b : Nat → Int} {p r : Nat} (h : zTree T κ pa le ri a b) (hp : T p) (hr : ri p = some r) :
    zTree T κ (zRpa pa le p r) (zRle pa le p r) (zRri pa le ri p r) (fun x => if x = r then a p else a x) (fun x => if x = p then κ r else b x) := by
  obtain ⟨p1, p2, p3, p4, p5, p6, p7⟩ := h p hp
  obtain ⟨hTr, r0, ra, rb⟩ := p4 r hr
  obtain ⟨r1, r2, r3, r4, r5, r6, r7⟩ := h r hTr
  have hpr : p ≠ r := fun e => by rw [← e] at ra; omega
  -- the parent q of p isn't p, isn't r
  have hq : ∀ q, pa p = some q → q ≠ p ∧ q ≠ r := by
    intro q hq
    obtain ⟨hTq, q7⟩ := p7 q hq
    obtain ⟨q1, q2, q3, q4, q5, -, -⟩ := h q hTq
    constructor
    · intro e
      subst e
      rcases q7 with g | g
      · have := (q2 _ g).2.2; omega
      · have := (q4 _ g).2.2; omega
    · intro e
      subst e
      rcases q7 with g | g
      · have := (q2 _ g).2.2; omega
      · have := (q4 _ g).2.2; omega
  -- the left child c of r
  have hc : ∀ c, le r = some c → c ≠ p ∧ c ≠ r ∧ pa c = some r := by
    intro c hc
    obtain ⟨c1, c2, c3, c4⟩ := r2 c hc
    refine ⟨fun e => ?_, fun e => ?_, c2⟩
    · subst e; omega
    · subst e; omega
  intro x hx
  obtain ⟨x1, x2, x3, x4, x5, x6, x7⟩ := h x hx
  by_cases exp : x = p
  · subst exp
    refine ⟨?_, fun y hy => ?_, fun hn k hk => ?_, fun y hy => ?_, fun hn k hk => ?_, fun hn => ?_, fun p' hp' => ?_⟩
    · dsimp only; rw [if_neg hpr, if_pos rfl]; omega
    · unfold zRle at hy
      rw [if_neg hpr, if_neg (fun g => (hq _ g.1).1 rfl)] at hy
      obtain ⟨g1, g2, g3, g4⟩ := x2 y hy
      have nyr : y ≠ r := fun e => by subst e; omega
      have nyx : y ≠ x := fun e => by subst e; omega
      have nyc : le r ≠ some y := fun e => by
        have := (hc y e).2.2
        rw [g2] at this
        exact hpr (Option.some.inj this)
      unfold zRpa
      dsimp only
      rw [if_neg nyx, if_neg nyr, if_neg nyc, if_neg nyr, if_neg nyx, if_neg hpr]
      exact ⟨g1, g2, g3, g4⟩
    · unfold zRle at hn
      rw [if_neg hpr, if_neg (fun g => (hq _ g.1).1 rfl)] at hn
      dsimp only; rw [if_neg hpr]
      exact x3 hn k hk
    · unfold zRri at hy
      rw [if_pos rfl] at hy
      obtain ⟨g1, g2, g3, g4⟩ := r2 y hy
      obtain ⟨n1, n2, -⟩ := hc y hy
      unfold zRpa
      dsimp only
      rw [if_neg n1, if_neg n2, if_pos hy, if_neg n2, if_neg n1, if_pos rfl]
      exact ⟨g1, rfl, by omega, g4⟩
    · unfold zRri at hn
      rw [if_pos rfl] at hn
      dsimp only; rw [if_pos rfl]
      intro g
      exact r3 hn k hk ⟨by omega, g.2⟩
    · unfold zRpa at hn
      rw [if_pos rfl] at hn
      cases hn
    · unfold zRpa at hp'
      rw [if_pos rfl] at hp'
      cases hp'
      refine ⟨hTr, Or.inl ?_⟩
      unfold zRle
      rw [if_pos rfl]
  by_cases exr : x = r
  · subst exr
    have hxp : x ≠ p := fun e => hpr e.symm
    refine ⟨?_, fun y hy => ?_, fun hn k hk => ?_, fun y hy => ?_, fun hn k hk => ?_, fun hn => ?_, fun p' hp' => ?_⟩
    · dsimp only; rw [if_pos rfl, if_neg hxp]; omega
    · unfold zRle at hy
      rw [if_pos rfl] at hy
      cases hy
      unfold zRpa
      dsimp only
      rw [if_pos rfl, if_neg hpr, if_pos rfl, if_pos rfl]
      exact ⟨hp, rfl, rfl, rfl⟩
    · unfold zRle at hn
      rw [if_pos rfl] at hn
      cases hn
    · unfold zRri at hy
      rw [if_neg hxp, if_neg (fun g => (hq _ g.1).2 rfl)] at hy
      obtain ⟨g1, g2, g3, g4⟩ := x4 y hy
      have nyx : y ≠ x := fun e => by subst e; omega
      have nyp : y ≠ p := fun e => by subst e; omega
      have nyc : le x ≠ some y := fun e => by
        have := (r2 y e).2.2
        omega
      unfold zRpa
      dsimp only
      rw [if_neg nyp, if_neg nyx, if_neg nyc, if_neg nyx, if_neg nyp, if_neg hxp]
      exact ⟨g1, g2, g3, g4⟩
    · unfold zRri at hn
      rw [if_neg hxp, if_neg (fun g => (hq _ g.1).2 rfl)] at hn
      dsimp only; rw [if_neg hxp]
      exact x5 hn k hk
    · unfold zRpa at hn
      rw [if_neg hxp, if_pos rfl] at hn
      dsimp only
      rw [if_pos rfl, if_neg hxp]
      have := p6 hn
      omega
    · unfold zRpa at hp'
      rw [if_neg hxp, if_pos rfl] at hp'
      obtain ⟨g1, g2⟩ := p7 p' hp'
      obtain ⟨n1, n2⟩ := hq p' hp'
      refine ⟨g1, ?_⟩
      unfold zRle zRri
      rw [if_neg n2, if_neg n1]
      by_cases hl : le p' = some p
      · exact Or.inl (if_pos ⟨hp', hl⟩)
      · exact Or.inr (if_pos ⟨hp', hl⟩)
  · have hle : ∀ y, le x = some y → y ≠ r ∧ le r ≠ some y := by
      intro y hy
      obtain ⟨g1, g2, g3, g4⟩ := x2 y hy
      refine ⟨fun e => ?_, fun e => ?_⟩
      · subst e; rw [r0] at g2; exact exp (Option.some.inj g2).symm
      · have := (hc y e).2.2
        rw [g2] at this
        exact exr (Option.some.inj this)
    have hri : ∀ y, ri x = some y → y ≠ r ∧ le r ≠ some y := by
      intro y hy
      obtain ⟨g1, g2, g3, g4⟩ := x4 y hy
      refine ⟨fun e => ?_, fun e => ?_⟩
      · subst e; rw [r0] at g2; exact exp (Option.some.inj g2).symm
      · have := (hc y e).2.2
        rw [g2] at this
        exact exr (Option.some.inj this)
    refine ⟨?_, fun y hy => ?_, fun hn k hk => ?_, fun y hy => ?_, fun hn k hk => ?_, fun hn => ?_, fun p' hp' => ?_⟩
    · dsimp only; rw [if_neg exr, if_neg exp]; exact x1
    · unfold zRle at hy
      rw [if_neg exr] at hy
      by_cases hl : pa p = some x ∧ le x = some p
      · rw [if_pos hl] at hy
        cases hy
        obtain ⟨g1, g2, g3, g4⟩ := x2 p hl.2
        unfold zRpa
        dsimp only
        rw [if_neg (fun e => hpr e.symm), if_pos rfl, if_pos rfl, if_neg exr, if_neg (fun e => hpr e.symm)]
        exact ⟨hTr, hl.1, g3, by omega⟩
      · rw [if_neg hl] at hy
        obtain ⟨g1, g2, g3, g4⟩ := x2 y hy
        obtain ⟨n1, n2⟩ := hle y hy
        have nyp : y ≠ p := fun e => by subst e; exact hl ⟨g2, hy⟩
        unfold zRpa
        dsimp only
        rw [if_neg nyp, if_neg n1, if_neg n2, if_neg n1, if_neg exr, if_neg nyp]
        exact ⟨g1, g2, g3, g4⟩
    · unfold zRle at hn
      rw [if_neg exr] at hn
      by_cases hl : pa p = some x ∧ le x = some p
      · rw [if_pos hl] at hn
        cases hn
      · rw [if_neg hl] at hn
        dsimp only; rw [if_neg exr]
        exact x3 hn k hk
    · unfold zRri at hy
      rw [if_neg exp] at hy
      by_cases hl : pa p = some x ∧ ¬ le x = some p
      · rw [if_pos hl] at hy
        cases hy
        have hxr : ri x = some p := ((p7 x hl.1).2).resolve_left hl.2
        obtain ⟨g1, g2, g3, g4⟩ := x4 p hxr
        unfold zRpa
        dsimp only
        rw [if_neg (fun e => hpr e.symm), if_pos rfl, if_pos rfl, if_neg (fun e => hpr e.symm), if_neg exp]
        exact ⟨hTr, hl.1, g3, by omega⟩
      · rw [if_neg hl] at hy
        obtain ⟨g1, g2, g3, g4⟩ := x4 y hy
        obtain ⟨n1, n2⟩ := hri y hy
        have nyp : y ≠ p := fun e => by
          subst e
          refine hl ⟨g2, fun z => ?_⟩
          have := (x2 y z).2.2
          omega
        unfold zRpa
        dsimp only
        rw [if_neg nyp, if_neg n1, if_neg n2, if_neg n1, if_neg nyp, if_neg exp]
        exact ⟨g1, g2, g3, g4⟩
    · unfold zRri at hn
      rw [if_neg exp] at hn
      by_cases hl : pa p = some x ∧ ¬ le x = some p
      · rw [if_pos hl] at hn
        cases hn
      · rw [if_neg hl] at hn
        dsimp only; rw [if_neg exp]
        exact x5 hn k hk
    · unfold zRpa at hn
      rw [if_neg exp, if_neg exr] at hn
      by_cases hl : le r = some x
      · rw [if_pos hl] at hn
        cases hn
      · rw [if_neg hl] at hn
        dsimp only; rw [if_neg exr, if_neg exp]
        exact x6 hn
    · unfold zRpa at hp'
      rw [if_neg exp, if_neg exr] at hp'
      by_cases hl : le r = some x
      · rw [if_pos hl] at hp'
        cases hp'
        refine ⟨hp, Or.inr ?_⟩
        unfold zRri
        rw [if_pos rfl]
        exact hl
      · rw [if_neg hl] at hp'
        obtain ⟨g1, g2⟩ := x7 p' hp'
        refine ⟨g1, ?_⟩
        rcases g2 with g | g
        · refine Or.inl ?_
          have n1 : p' ≠ r := fun e => hl (e ▸ g)
          unfold zRle
          rw [if_neg n1, if_neg (fun z => exp (Option.some.inj (g.symm.trans z.2)))]
          exact g
        · refine Or.inr ?_
          have n1 : p' ≠ p := fun e => by
            rw [e, hr] at g
            exact exr (Option.some.inj g).symm
          unfold zRri
          rw [if_neg n1]
          by_cases hl2 : pa p = some p' ∧ ¬ le p' = some p
          · exfalso
            have := ((p7 p' hl2.1).2).resolve_left hl2.2
            rw [g] at this
            exact exp (Option.some.inj this)
          · rw [if_neg hl2]
            exact g
/-- whose interval ends at x's key lies in x's left subtree: x has a left child -/
theorem zTree.climb {T : Nat → Prop} {κ : Nat → Int} {pa le ri : Nat → Option Nat} {a b : Nat → Int} (h : zTree T κ pa le ri a b) (inj : ∀ x y, T x → T y → κ x = κ y → x = y) {x : Nat} (hx : T x) : ∀ n y, T y → (200000 - (b y - a y)).toNat ≤ n → b y = κ x → le x ≠ none
  | n, y, hy, hn, he => by
    obtain ⟨y1, y2, y3, y4, y5, y6, y7⟩ := h y hy
    obtain ⟨x1, -⟩ := h x hx
    cases hp : pa y with
    | none =>
      have := y6 hp
      omega
    | some w =>
      obtain ⟨hw, g⟩ := y7 w hp
      obtain ⟨w1, w2, w3, w4, w5, w6, w7⟩ := h w hw
      rcases g with g | g
      · obtain ⟨-, -, g3, g4⟩ := w2 y g
        have := inj x w hx hw (by omega)
        subst this
        rw [g]
        exact fun z => by cases z
      · obtain ⟨-, -, g3, g4⟩ := w4 y g
        cases n with
        | zero => omega
        | succ n => exact h.climb inj hx n w hw (by omega) (by omega)
/-- an interval's upper end is a key, or the greatest -/
theorem zTree.bnd {T : Nat → Prop} {κ : Nat → Int} {pa le ri : Nat → Option Nat} {a b : Nat → Int} (h : zTree T κ pa le ri a b) (inj : ∀ x y, T x → T y → κ x = κ y → x = y) : ∀ n y, T y → (200000 - (b y - a y)).toNat ≤ n → (∃ w, T w ∧ b y = κ w) ∨ b y = 100000
  | n, y, hy, hn => by
    obtain ⟨y1, y2, y3, y4, y5, y6, y7⟩ := h y hy
    cases hp : pa y with
    | none => exact Or.inr (y6 hp).2
    | some w =>
      obtain ⟨hw, g⟩ := y7 w hp
      obtain ⟨w1, w2, w3, w4, w5, w6, w7⟩ := h w hw
      rcases g with g | g
      · obtain ⟨-, -, g3, g4⟩ := w2 y g
        exact Or.inl ⟨w, hw, g4⟩
      · obtain ⟨-, -, g3, g4⟩ := w4 y g
        cases n with
        | zero => omega
        | succ n =>
          rcases h.bnd inj n w hw (by omega) with ⟨u, hu, e⟩ | e
          · exact Or.inl ⟨u, hu, by omega⟩
          · exact Or.inr (by omega)
/-- a new leaf at the left -/
theorem zTree.leaf {T : Nat → Prop} {κ : Nat → Int} {pa le ri : Nat → Option Nat} {a b : Nat → Int} {x z : Nat} (h : zTree T κ pa le ri a b) (inj : ∀ x y, T x → T y → κ x = κ y → x = y) (hx : T x) (hl : le x = none) (hz : ¬ T z) (hi : ∀ k, T k → κ k ≠ κ z) (h1 : a x < κ z) (h2 : κ z < κ x) :
    zTree (fun k => T k ∨ k = z) κ (va_up pa z (some x)) (va_up (va_up le z none) x (some z)) (va_up ri z none) (fun k => if k = z then a x else a k) (fun k => if k = z then κ x else b k) := by
  have nT : ∀ k, T k → k ≠ z := fun k hk e => hz (e ▸ hk)
  have hxz := nT x hx
  obtain ⟨x1, x2, x3, x4, x5, x6, x7⟩ := h x hx
  intro k hk
  by_cases ekz : k = z
  · subst ekz
    have hkx : k ≠ x := fun e => hxz e.symm
    refine ⟨?_, fun y hy => ?_, fun hn j hj => ?_, fun y hy => ?_, fun hn j hj => ?_, fun hn => ?_, fun p' hp' => ?_⟩
    · dsimp only; rw [if_pos rfl, if_pos rfl]; omega
    · rw [va_up_ne _ _ hkx, va_up_self] at hy; cases hy
    · dsimp only; rw [if_pos rfl]
      rcases hj with hj | rfl
      · intro g; exact x3 hl j hj ⟨g.1, by omega⟩
      · omega
    · rw [va_up_self] at hy; cases hy
    · dsimp only; rw [if_pos rfl]
      rcases hj with hj | rfl
      · intro g; exact x3 hl j hj ⟨by omega, g.2⟩
      · omega
    · rw [va_up_self] at hn; cases hn
    · rw [va_up_self] at hp'
      cases hp'
      exact ⟨Or.inl hx, Or.inl (va_up_self _ _ _)⟩
  · have hkT : T k := hk.resolve_right ekz
    obtain ⟨k1, k2, k3, k4, k5, k6, k7⟩ := h k hkT
    refine ⟨?_, fun y hy => ?_, fun hn j hj => ?_, fun y hy => ?_, fun hn j hj => ?_, fun hn => ?_, fun p' hp' => ?_⟩
    · dsimp only; rw [if_neg ekz, if_neg ekz]; exact k1
    · by_cases ekx : k = x
      · subst ekx
        rw [va_up_self] at hy
        cases hy
        dsimp only
        rw [va_up_self, if_pos rfl, if_pos rfl, if_neg ekz]
        exact ⟨Or.inr rfl, rfl, rfl, rfl⟩
      · rw [va_up_ne _ _ ekx, va_up_ne _ _ ekz] at hy
        obtain ⟨g1, g2, g3, g4⟩ := k2 y hy
        have nyz := nT y g1
        dsimp only
        rw [va_up_ne _ _ nyz, if_neg nyz, if_neg nyz, if_neg ekz]
        exact ⟨Or.inl g1, g2, g3, g4⟩
    · by_cases ekx : k = x
      · subst ekx; rw [va_up_self] at hn; cases hn
      · rw [va_up_ne _ _ ekx, va_up_ne _ _ ekz] at hn
        dsimp only; rw [if_neg ekz]
        rcases hj with hj | rfl
        · exact k3 hn j hj
        · intro g
          have n1 := k3 hn x hx
          have n2 := x3 hl k hkT
          have n3 : κ k ≠ κ x := fun e => ekx (inj k x hkT hx e)
          omega
    · rw [va_up_ne _ _ ekz] at hy
      obtain ⟨g1, g2, g3, g4⟩ := k4 y hy
      have nyz := nT y g1
      dsimp only
      rw [va_up_ne _ _ nyz, if_neg nyz, if_neg nyz, if_neg ekz]
      exact ⟨Or.inl g1, g2, g3, g4⟩
    · rw [va_up_ne _ _ ekz] at hn
      dsimp only; rw [if_neg ekz]
      rcases hj with hj | rfl
      · exact k5 hn j hj
      · intro g
        -- k's right gap and x's left gap would be one
        have n1 := k5 hn x hx
        have n2 := x3 hl k hkT
        have hb : b k ≤ κ x := by omega
        have : b k = κ x := by
          refine Decidable.byContradiction (fun ne => ?_)
          obtain ⟨w, hw, ew⟩ | ew := h.bnd inj 200000 k hkT (by omega)
          · have := x3 hl w hw
            omega
          · omega
        exact h.climb inj hx 200000 k hkT (by omega) this hl
    · rw [va_up_ne _ _ ekz] at hn
      dsimp only; rw [if_neg ekz, if_neg ekz]
      exact k6 hn
    · rw [va_up_ne _ _ ekz] at hp'
      obtain ⟨g1, g2⟩ := k7 p' hp'
      have npz := nT p' g1
      refine ⟨Or.inl g1, ?_⟩
      rcases g2 with g | g
      · refine Or.inl ?_
        have n1 : p' ≠ x := fun e => by rw [e, hl] at g; cases g
        rw [va_up_ne _ _ n1, va_up_ne _ _ npz]
        exact g
      · exact Or.inr ((va_up_ne _ _ npz).trans g)
