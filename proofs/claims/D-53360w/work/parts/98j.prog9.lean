/-! THE PROGRAMME: a show is held (holds) -/
set_option maxRecDepth 100000
theorem tCloseN_los {P : zP} {D : Nat → Int32} {s : Nat} : ∀ n, (tCloseN P D s 4 n).1 = tLosN P s 1 false n
  | 0 => rfl
  | n + 1 => by
    have ih := tCloseN_los (P := P) (D := D) (s := s) n
    unfold tCloseN tLosN
    by_cases q : P 4 n 0 = nI s ∧ P 4 n 4 = 0
    · rw [if_pos q, if_pos rfl, if_pos ⟨q.1, q.2, fun e => by cases e⟩]
      show tLose _ n 1 = _
      rw [ih]
    · rw [if_neg q, if_neg (fun z => q ⟨z.1, z.2.1⟩)]
      exact ih
section ZPK
variable {G : zG} {μ : zM} {p o : Nat} {P : zP} {A : Nat → Nat → Nat} {c : Nat → Int32}
/-- held changes -/
theorem zPR.held {μ' : zM} {v : Int32} (h : zPR G μ p o P A c) (hμ : μ' = updM μ p (pgT 0 o, oPG A (upd c 0 v) P)) : zPR G μ' p o P A (upd c 0 v) ∧ zKp (zKo o) μ μ' := by
  obtain ⟨h1, ⟨f, h2, h3⟩, h4⟩ := h
  have hk : zKp (fun _ u => u = pgT 0 o) μ μ' := hμ ▸ zKp.put h1 rfl
  have nt : ∀ (b m : Nat), m ≠ 20000 → ¬ ((m, o) : zT) = pgT 0 o := fun b m hm q => hm (congrArg Prod.fst q)
  refine ⟨⟨hμ ▸ updM_eq _ _ _, ⟨f, hk _ _ _ h2 (nt 0 _ (by omega)), h3⟩, fun s hs => ?_⟩, hμ ▸ zKp.put h1 ⟨rfl, Nat.le_refl _⟩⟩
  have sl := hs.lt
  rw [pk_un (by omega)]
  refine ⟨(h4 s hs).1.kp hk (fun b => nt b _ (by omega)) (fun b => nt b _ (by omega)), fun i hi => ((h4 s hs).2 i hi).kp hs hk (fun b q => ?_) (fun b => nt b _ (by omega)) (fun b => nt b _ (by omega)) zSm.rf⟩
  have e1 : 0 = 20000 + 0 := congrArg Prod.fst q
  omega
/-- a lamp's hours and place change -/
theorem zPR.lwear {μ' : zM} {i : Nat} {u v : Int32} (h : zPR G μ p o P A c) (hO : tOk P) (hi : i < pcn P 8) (hμ : μ' = updM μ (A 2 i) (obT 2 i o, oLamp (P 2 i 0) u v)) : zPR G μ' p o (updP (updP P 2 i 1 u) 2 i 2 v) A c ∧ zKp (zKo o) μ μ' := by
  have hla := h.la hi
  refine ⟨h.one (s0 := 2) (i0 := i) hO (Or.inr (Or.inl rfl)) hi (hμ ▸ zKp.put hla (Or.inl rfl)) (fun j => by rw [updP_ne (by omega), updP_ne (by omega)]) ?_ (fun s j _ _ n => zSm.of (fun x _ => by rw [updP_ne (by omega), updP_ne (by omega)]) (by rw [updP_ne (by omega), updP_ne (by omega)]) (fun b x => by rw [updP_ne (by omega), updP_ne (by omega)])), hμ ▸ zKp.put hla zKo.ob⟩
  have e0 : updP (updP P 2 i 1 u) 2 i 2 v 2 i 0 = P 2 i 0 := (updP_ne (by omega)).trans (updP_ne (by omega))
  have e1 : updP (updP P 2 i 1 u) 2 i 2 v 2 i 1 = u := (updP_ne (by omega)).trans (updP_eq _ _ _ _ _)
  have e2 : updP (updP P 2 i 1 u) 2 i 2 v 2 i 2 = v := updP_eq _ _ _ _ _
  show μ' (A 2 i) = some (obT 2 i o, oLamp (updP (updP P 2 i 1 u) 2 i 2 v 2 i 0) (updP (updP P 2 i 1 u) 2 i 2 v 2 i 1) (updP (updP P 2 i 1 u) 2 i 2 v 2 i 2))
  rw [e0, e1, e2, hμ]
  exact updM_eq _ _ _
/-- how many shows a lamp had isn't said by memory -/
theorem zPR.l3 {i : Nat} {v : Int32} (h : zPR G μ p o P A c) (hO : tOk P) (hi : i < pcn P 8) : zPR G μ p o (updP P 2 i 3 v) A c := by
  refine h.set hO (Or.inr (Or.inl rfl)) (by decide) hi zKp.rf ?_
  show μ (A 2 i) = some (obT 2 i o, oLamp (updP P 2 i 3 v 2 i 0) (updP P 2 i 3 v 2 i 1) (updP P 2 i 3 v 2 i 2))
  rw [updP_ne (by omega), updP_ne (by omega), updP_ne (by omega)]
  exact h.la hi
end ZPK
