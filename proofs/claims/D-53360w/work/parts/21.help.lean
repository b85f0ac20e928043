/-! HELP: small lemmas for walks -/
set_option maxRecDepth 100000
def zPure (x : Value) (μ : zM) : Option Value → zM → Prop := fun v μ' => v = some x ∧ μ' = μ
theorem zpk {G : zG} {d : Nat} {Y : zMI} {post : Option Value → zM → Prop} {bc bs q : Nat} {L : List (Nat × Value)} {rest : List Value} {μ : zM} {x : Value} (k : AW G d Y post bc bs q L (x :: rest) μ) : ∀ v μ', zPure x μ v μ' → AW G d Y post bc bs q L (v.toList ++ rest) μ' := by
  intro v μ' h
  obtain ⟨rfl, rfl⟩ := h
  exact k
def zB (p : Prop) [Decidable p] : Int32 := if p then 1 else 0
theorem zB_nar (p : Prop) [Decidable p] : narrow .boolean (.int (zB p)) = .int (zB p) := by unfold zB; split <;> rfl
theorem zB_t {p : Prop} [Decidable p] (h : p) : zB p = 1 := if_pos h
theorem zB_f {p : Prop} [Decidable p] (h : ¬ p) : zB p = 0 := if_neg h
theorem zB_ne {p : Prop} [Decidable p] : zB p = 0 ↔ ¬ p := by unfold zB; split <;> simp_all
def zVoid (μ : zM) : Option Value → zM → Prop := fun v μ' => v = none ∧ μ' = μ
theorem zpv {G : zG} {d : Nat} {Y : zMI} {post : Option Value → zM → Prop} {bc bs q : Nat} {L : List (Nat × Value)} {rest : List Value} {μ : zM} (k : AW G d Y post bc bs q L rest μ) : ∀ v μ', zVoid μ v μ' → AW G d Y post bc bs q L (v.toList ++ rest) μ' := by
  intro v μ' h
  obtain ⟨rfl, rfl⟩ := h
  exact k
theorem zcat_rf (r : Option Nat) : (va_rf r).category = 1 := by cases r <;> rfl
theorem znar_rf (C : String) (r : Option Nat) : narrow (.object C) (va_rf r) = va_rf r := by cases r <;> rfl
theorem zfit_rf (C : String) (r : Option Nat) : fits (.object C) (va_rf r) = true := by cases r <;> rfl
theorem zneq {μ : zM} {a b : Nat} {x y : zT × va_E} (h1 : μ a = some x) (h2 : μ b = some y) (h : x ≠ y) : a ≠ b := by
  intro e
  subst e
  exact h (Option.some.inj (h1.symm.trans h2))
theorem zneN {μ : zM} {a b : Nat} {x : zT × va_E} (h1 : μ a = some x) (h2 : μ b = none) : a ≠ b := by
  intro e
  subst e
  rw [h1] at h2
  cases h2
theorem pk_sub1 (n : Nat) : nI (n + 1) - 1 = nI n := nI_pred n
section ZHL
variable {G : zG} {d : Nat} {Y : zMI} {post : Option Value → zM → Prop} {bc bs pc q : Nat} {L : List (Nat × Value)} {S : List Value} {μ : zM}
theorem aw_aaldO {a n : Nat} {f : Nat → Option Nat} {t : zT} {i : Int32} {v : Option Nat} (k : Nat) (hdg : decode Y.2.1 pc = .ok (.aaload, 1)) (hm : μ a = some (t, aO G n f)) (hi : i = nI k) (hk : k < n) (hn : n < 2 ^ 31) (hv : f k = v) (hq : pc + 1 = q) (kk : AW G d Y post bc bs q L (va_rf v :: S) μ) : AW G d Y post bc bs pc L (.int i :: .ref a :: S) μ :=
  aw_aaldX (j := 3) k hdg rfl hm hi hk hn hv hq kk
theorem aw_aaldP {a n : Nat} {f : Nat → Option Nat} {t : zT} {i : Int32} {v : Option Nat} (k : Nat) (hdg : decode Y.2.1 pc = .ok (.aaload, 1)) (hm : μ a = some (t, aP G n f)) (hi : i = nI k) (hk : k < n) (hn : n < 2 ^ 31) (hv : f k = v) (hq : pc + 1 = q) (kk : AW G d Y post bc bs q L (va_rf v :: S) μ) : AW G d Y post bc bs pc L (.int i :: .ref a :: S) μ :=
  aw_aaldX (j := 4) k hdg rfl hm hi hk hn hv hq kk
theorem aw_aaldN {a n : Nat} {f : Nat → Option Nat} {t : zT} {i : Int32} {v : Option Nat} (k : Nat) (hdg : decode Y.2.1 pc = .ok (.aaload, 1)) (hm : μ a = some (t, aN G n f)) (hi : i = nI k) (hk : k < n) (hn : n < 2 ^ 31) (hv : f k = v) (hq : pc + 1 = q) (kk : AW G d Y post bc bs q L (va_rf v :: S) μ) : AW G d Y post bc bs pc L (.int i :: .ref a :: S) μ :=
  aw_aaldX (j := 5) k hdg rfl hm hi hk hn hv hq kk
theorem aw_alenI {a n : Nat} {f : Nat → Int32} {t : zT} (hdg : decode Y.2.1 pc = .ok (.arraylength, 1)) (hm : μ a = some (t, aI G n f)) (hq : pc + 1 = q) (kk : AW G d Y post bc bs q L (.int (nI n) :: S) μ) : AW G d Y post bc bs pc L (.ref a :: S) μ := aw_alen (j := 0) hdg rfl hm rfl hq kk
theorem aw_alenB {a n : Nat} {f : Nat → Int32} {t : zT} (hdg : decode Y.2.1 pc = .ok (.arraylength, 1)) (hm : μ a = some (t, aB G n f)) (hq : pc + 1 = q) (kk : AW G d Y post bc bs q L (.int (nI n) :: S) μ) : AW G d Y post bc bs pc L (.ref a :: S) μ := aw_alen (j := 1) hdg rfl hm rfl hq kk
theorem aw_alenO {a n : Nat} {f : Nat → Option Nat} {t : zT} (hdg : decode Y.2.1 pc = .ok (.arraylength, 1)) (hm : μ a = some (t, aO G n f)) (hq : pc + 1 = q) (kk : AW G d Y post bc bs q L (.int (nI n) :: S) μ) : AW G d Y post bc bs pc L (.ref a :: S) μ := aw_alen (j := 3) hdg rfl hm rfl hq kk
theorem aw_alenP {a n : Nat} {f : Nat → Option Nat} {t : zT} (hdg : decode Y.2.1 pc = .ok (.arraylength, 1)) (hm : μ a = some (t, aP G n f)) (hq : pc + 1 = q) (kk : AW G d Y post bc bs q L (.int (nI n) :: S) μ) : AW G d Y post bc bs pc L (.ref a :: S) μ := aw_alen (j := 4) hdg rfl hm rfl hq kk
theorem aw_alenN {a n : Nat} {f : Nat → Option Nat} {t : zT} (hdg : decode Y.2.1 pc = .ok (.arraylength, 1)) (hm : μ a = some (t, aN G n f)) (hq : pc + 1 = q) (kk : AW G d Y post bc bs q L (.int (nI n) :: S) μ) : AW G d Y post bc bs pc L (.ref a :: S) μ := aw_alen (j := 5) hdg rfl hm rfl hq kk
end ZHL
/-- all cells but those that T names stay -/
def zKp (T : Nat → zT → Prop) (μ μ' : zM) : Prop := ∀ (a : Nat) (t : zT) (e : va_E), μ a = some (t, e) → ¬ T a t → μ' a = some (t, e)
theorem zKp.rf {T : Nat → zT → Prop} {μ : zM} : zKp T μ μ := fun _ _ _ h _ => h
theorem zKp.tr {T : Nat → zT → Prop} {μ μ1 μ2 : zM} (h1 : zKp T μ μ1) (h2 : zKp T μ1 μ2) : zKp T μ μ2 := fun a t e h n => h2 a t e (h1 a t e h n) n
theorem zKp.mono {T T' : Nat → zT → Prop} {μ μ' : zM} (h : zKp T μ μ') (hT : ∀ a t, T a t → T' a t) : zKp T' μ μ' := fun a t e q n => h a t e q (fun z => n (hT a t z))
theorem zKp.put {T : Nat → zT → Prop} {μ : zM} {a : Nat} {t : zT} {e e' : va_E} (h : μ a = some (t, e)) (hT : T a t) : zKp T μ (updM μ a (t, e')) := by
  intro b t' e'' hb n
  by_cases hba : b = a
  · subst hba
    cases h.symm.trans hb
    exact absurd hT n
  · rw [updM_ne hba]; exact hb
theorem zKp.new {T : Nat → zT → Prop} {μ : zM} {a : Nat} {x : zT × va_E} (h : μ a = none) : zKp T μ (updM μ a x) := by
  intro b t' e'' hb n
  rw [updM_ne (zneN hb h)]; exact hb
