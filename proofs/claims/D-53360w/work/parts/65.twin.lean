/-! THE TWIN, part 24: texts: one order -/
set_option maxRecDepth 100000
/-- an order read: whether wrong, place, its numbers (first its sort) -/
abbrev tO : Type := Bool × Nat × (Nat → Int32)
def tFive (a b c d e : Int32) : Nat → Int32 := fun k => match k with | 0 => a | 1 => b | 2 => c | 3 => d | _ => e
def tB_w2 (g : Nat → Int32) (n1 : Bool × Nat × Int32) : Bool := tNW g n1.1 n1.2.1 58
def tB_n2 (g : Nat → Int32) (n1 : Bool × Nat × Int32) : Bool × Nat × Int32 := tNbr g (tB_w2 g n1) (tAt (tB_w2 g n1) n1.2.1)
def tB_s (g : Nat → Int32) (n2 : Bool × Nat × Int32) : Bool := !n2.1 && decide (g n2.2.1 = 115)
def tB_w4 (g : Nat → Int32) (n2 : Bool × Nat × Int32) : Bool := if tB_s g n2 then tDW g n2.1 (n2.2.1 + 1) 0 5 else n2.1
def tB_a4 (g : Nat → Int32) (n2 : Bool × Nat × Int32) : Nat := if tB_s g n2 then tAt (tB_w4 g n2) (n2.2.1 + 1) else n2.2.1
def tB_o3 (g : Nat → Int32) (n2 : Bool × Nat × Int32) : Int32 := if tB_s g n2 then tDV g n2.1 (n2.2.1 + 1) 0 5 else -6
def tB_b (g : Nat → Int32) (n2 : Bool × Nat × Int32) : Bool := !tB_w4 g n2 && decide (g (tB_a4 g n2) = 33)
def tOneB (g : Nat → Int32) (n1 : Bool × Nat × Int32) : tO := (tB_w4 g (tB_n2 g n1), if tB_b g (tB_n2 g n1) then tB_a4 g (tB_n2 g n1) + 1 else tB_a4 g (tB_n2 g n1), tFive 98 n1.2.2 (tB_n2 g n1).2.2 (tB_o3 g (tB_n2 g n1)) (bI (tB_b g (tB_n2 g n1))))
def tE_w2 (g : Nat → Int32) (n1 : Bool × Nat × Int32) : Bool := tNW g n1.1 n1.2.1 47
def tE_a2 (g : Nat → Int32) (n1 : Bool × Nat × Int32) : Nat := tAt (tE_w2 g n1) n1.2.1
def tE_w3 (g : Nat → Int32) (n1 : Bool × Nat × Int32) : Bool := tDW g (tE_w2 g n1) (tE_a2 g n1) 0 5
def tE_a3 (g : Nat → Int32) (n1 : Bool × Nat × Int32) : Nat := tAt (tE_w3 g n1) (tE_a2 g n1)
def tE_w4 (g : Nat → Int32) (kd : Int32) (n1 : Bool × Nat × Int32) : Bool := tNW g (tE_w3 g n1) (tE_a3 g n1) (if kd = 112 then 107 else 120)
def tE_a4 (g : Nat → Int32) (kd : Int32) (n1 : Bool × Nat × Int32) : Nat := tAt (tE_w4 g kd n1) (tE_a3 g n1)
def tE_lo (kd : Int32) : Int32 := if kd = 112 then 0 else 1
def tE_hi (kd : Int32) : Int32 := if kd = 112 then 9 else 6
def tOneE (g : Nat → Int32) (kd : Int32) (n1 : Bool × Nat × Int32) : tO := (tDW g (tE_w4 g kd n1) (tE_a4 g kd n1) (tE_lo kd) (tE_hi kd), tAt (tDW g (tE_w4 g kd n1) (tE_a4 g kd n1) (tE_lo kd) (tE_hi kd)) (tE_a4 g kd n1), tFive kd n1.2.2 (tDV g (tE_w2 g n1) (tE_a2 g n1) 0 5) (tDV g (tE_w4 g kd n1) (tE_a4 g kd n1) (tE_lo kd) (tE_hi kd)) 0)
def tOne (g : Nat → Int32) (a : Nat) : tO := if g a = 112 ∨ g a = 101 ∨ g a = 98 then (if g a = 98 then tOneB g (tNbr g false (a + 1)) else tOneE g (g a) (tNbr g false (a + 1))) else (true, a, fun _ => 0)
theorem tAt_le {w : Bool} {a : Nat} : a ≤ tAt w a ∧ tAt w a ≤ a + 1 := by
  unfold tAt; split <;> omega
theorem tNumN_le {g : Nat → Int32} : ∀ f a v, a ≤ (tNumN g f a v).1 ∧ (tNumN g f a v).1 ≤ a + f
  | 0, a, v => ⟨Nat.le_refl _, Nat.le_refl _⟩
  | f + 1, a, v => by
    unfold tNumN
    split
    · have := tNumN_le (g := g) f (a + 1) (10 * v + g a - 48); omega
    · exact ⟨Nat.le_refl _, Nat.le_add_right _ _⟩
theorem tNbr_le {g : Nat → Int32} {w : Bool} {a : Nat} : a ≤ (tNbr g w a).2.1 ∧ (tNbr g w a).2.1 ≤ a + 4 := by
  unfold tNbr
  split
  · exact ⟨Nat.le_refl _, Nat.le_add_right _ _⟩
  · have := tNumN_le (g := g) 3 (a + 1) (g a - 48)
    show a ≤ (tNumN g 3 (a + 1) (g a - 48)).1 ∧ (tNumN g 3 (a + 1) (g a - 48)).1 ≤ a + 4
    omega
theorem zTS.o10 {G : zG} {μ μ1 : zM} {m : Nat} {lam : Nat → Nat} {K : Nat → Nat → Int32} {P : zP} {R : tR} {f : Nat → Int32} (hS : zTS G μ m lam K P R) (hμ : μ1 = updM μ (lam 10) ((2, 10), aI G 200 f)) : zTS G μ1 m lam (setK K 10 f) P R ∧ zKp tTw μ μ1 := by
  obtain ⟨h1, h2⟩ := hS.1.1.st10 hμ
  exact ⟨⟨hS.1.other h1 (setK_ne (by decide)), hS.2.congr (fun i hi => rfl) rfl rfl rfl rfl⟩, h2⟩
section ZTW24
variable {G : zG} {μ : zM} {m : Nat} {lam : Nat → Nat} {K : Nat → Nat → Int32} {P : zP} {R : tR}
/-- what readOne leaves: order n is o -/
def tY (G : zG) (μ : zM) (m : Nat) (lam : Nat → Nat) (K : Nat → Nat → Int32) (P : zP) (R : tR) (n : Nat) (o : tO) : Option Value → zM → Prop := fun v μ' => v = none ∧ (∃ K', zTS G μ' m lam K' P R ∧ K' 0 5 = nI o.2.1 ∧ K' 0 6 = bI o.1 ∧ (o.1 = false → K' 0 4 = nI (n + 1) ∧ ∀ c, c < 5 → (c < 4 ∨ o.2.2 0 = 98) → K' 10 (5 * n + c) = o.2.2 c) ∧ (∀ j, j < 5 * n → K' 10 j = K 10 j) ∧ ∀ r, r ≠ 0 → r ≠ 10 → K' r = K r) ∧ zKp tTw μ μ'
/-- the memory while an order is read -/
def tZ1 (G : zG) (μ μ1 : zM) (m : Nat) (lam : Nat → Nat) (K K1 : Nat → Nat → Int32) (P : zP) (R : tR) (n : Nat) (w : Bool) (a : Nat) (X : Nat → Int32) : Prop := zTS G μ1 m lam K1 P R ∧ K1 0 5 = nI a ∧ K1 0 6 = bI w ∧ K1 0 4 = nI n ∧ K1 10 = X ∧ (∀ r, r ≠ 0 → r ≠ 10 → K1 r = K r) ∧ zKp tTw μ μ1
theorem tZ1.read {μ1 μ2 : zM} {K1 K2 : Nat → Nat → Int32} {n : Nat} {w w' : Bool} {a a' : Nat} {X : Nat → Int32} (h : tZ1 G μ μ1 m lam K K1 P R n w a X) (hS : zTS G μ2 m lam K2 P R) (ha : K2 0 5 = nI a') (hw : K2 0 6 = bI w') (h4 : K2 0 4 = K1 0 4) (hK : ∀ r, r ≠ 0 → K2 r = K1 r) (hk : zKp tTw μ1 μ2) : tZ1 G μ μ2 m lam K K2 P R n w' a' X :=
  ⟨hS, ha, hw, h4.trans h.2.2.2.1, (hK 10 (by decide)).trans h.2.2.2.2.1, fun r h1 h2 => (hK r h1).trans (h.2.2.2.2.2.1 r h1 h2), h.2.2.2.2.2.2.tr hk⟩
theorem tZ1.sto {μ1 μ2 : zM} {K1 : Nat → Nat → Int32} {n k : Nat} {w : Bool} {a : Nat} {v : Int32} {X : Nat → Int32} (h : tZ1 G μ μ1 m lam K K1 P R n w a X) (hμ : μ2 = updM μ1 (lam 10) ((2, 10), aI G 200 (upd X k v))) : tZ1 G μ μ2 m lam K (setK K1 10 (upd X k v)) P R n w a (upd X k v) := by
  obtain ⟨h1, h2⟩ := h.1.o10 hμ
  exact ⟨h1, h.2.1, h.2.2.1, h.2.2.2.1, setK_eq _ _ _, fun r a b => (setK_ne b).trans (h.2.2.2.2.2.1 r a b), h.2.2.2.2.2.2.tr h2⟩
theorem tZ1.a10 {μ1 : zM} {K1 : Nat → Nat → Int32} {n : Nat} {w : Bool} {a : Nat} {X : Nat → Int32} (h : tZ1 G μ μ1 m lam K K1 P R n w a X) : μ1 (lam 10) = some ((2, 10), aI G 200 X) := by
  have := h.1.1.a10
  rw [h.2.2.2.2.1] at this
  exact this
theorem tZ1.at {μ1 μ2 : zM} {K1 : Nat → Nat → Int32} {n : Nat} {w : Bool} {a a' : Nat} {v : Int32} {X : Nat → Int32} (h : tZ1 G μ μ1 m lam K K1 P R n w a X) (hv : v = nI a') (hμ : μ2 = updM μ1 m ((2, 0), oTw lam (setK K1 0 (upd (K1 0) 5 v)))) : tZ1 G μ μ2 m lam K (setK K1 0 (upd (K1 0) 5 v)) P R n w a' X := by
  obtain ⟨h1, h2⟩ := h.1.sc 5 v (by decide) hμ
  exact ⟨h1, hv, h.2.2.1, h.2.2.2.1, h.2.2.2.2.1, fun r a b => (setK_ne a).trans (h.2.2.2.2.2.1 r a b), h.2.2.2.2.2.2.tr h2⟩
theorem tZ1.wr {μ1 μ2 : zM} {K1 : Nat → Nat → Int32} {n : Nat} {w w' : Bool} {a : Nat} {v : Int32} {X : Nat → Int32} (h : tZ1 G μ μ1 m lam K K1 P R n w a X) (hv : v = bI w') (hμ : μ2 = updM μ1 m ((2, 0), oTw lam (setK K1 0 (upd (K1 0) 6 v)))) : tZ1 G μ μ2 m lam K (setK K1 0 (upd (K1 0) 6 v)) P R n w' a X := by
  obtain ⟨h1, h2⟩ := h.1.sc 6 v (by decide) hμ
  exact ⟨h1, h.2.1, hv, h.2.2.2.1, h.2.2.2.2.1, fun r a b => (setK_ne a).trans (h.2.2.2.2.2.1 r a b), h.2.2.2.2.2.2.tr h2⟩
theorem zBn (b : Bool) : bI b = 0 ↔ b = false := by cases b <;> decide
/-- the end: one order more -/
theorem one_end {n : Nat} {o : tO} {μ1 : zM} {K1 : Nat → Nat → Int32} {X : Nat → Int32} (h : tZ1 G μ μ1 m lam K K1 P R n o.1 o.2.1 X) (hX : ∀ c, c < 5 → (c < 4 ∨ o.2.2 0 = 98) → X (5 * n + c) = o.2.2 c) (hX2 : ∀ j, j < 5 * n → X j = K 10 j) (L : List (Nat × Value)) (hL : zget L 0 = some (.ref m)) : AW G 4 MX2_readOne (tY G μ m lam K P R n o) 0 0 274 L [] μ1 := by
  have hm := h.1.1.m
  refine aw_aload_n (i := 0) (q := 275) dX2_readOne_274 rfl hL rfl ?_
  refine aw_dup (q := 276) dX2_readOne_275 (by first | rfl | exact zcat_rf _) rfl ?_
  refine aw_getfield (q := 279) dX2_readOne_276 gf_X2_197_2 (by assumption) rfl rfl ?_
  refine aw_iconst (v := 1) (q := 280) dX2_readOne_279 rfl rfl ?_
  refine aw_iadd (q := 281) dX2_readOne_280 rfl ?_
  rw [h.2.2.2.1]
  refine aw_putfield (q := 284) dX2_readOne_281 gf_X2_197_2 hm (by first | assumption | simp) (by first | rfl | exact znar_rf _ _) (by first | rfl | exact zfit_rf _ _) (Nat.le_of_ble_eq_true rfl) rfl (fun μ2 hg_μ2 => ?_)
  have hm : μ2 _ = some _ := hg_μ2 ▸ updM_eq _ _ _
  simp only [List.set] at hm hg_μ2
  obtain ⟨hS2, hk2⟩ := h.1.sc 4 (nI n + 1) (by decide) hg_μ2
  exact aw_return dX2_readOne_284 rfl (⟨rfl, ⟨_, hS2, h.2.1, h.2.2.1, fun _ => ⟨nI_1 n, fun c c1 c2 => by (show K1 10 _ = _; rw [h.2.2.2.2.1]; exact hX c c1 c2)⟩, fun j hj => by (show K1 10 j = _; rw [h.2.2.2.2.1]; exact hX2 j hj), fun r a b => (setK_ne a).trans (h.2.2.2.2.2.1 r a b)⟩, h.2.2.2.2.2.2.tr hk2⟩)
end ZTW24
