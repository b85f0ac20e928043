/-! THE PROGRAMME: a show is held -/
set_option maxRecDepth 100000
theorem tTallyN_upd {P : zP} {b w n s i j : Nat} {v : Int32} (h6 : s ≠ 6) (h3 : s ≠ 3) (h4 : s = 4 → 4 ≤ j) : tTallyN (updP P s i j v) b w n = updP (tTallyN P b w n) s i j v := by
  funext s' i' j'
  have e4 : ∀ k, k < 3 → updP P s i j v 4 b k = P 4 b k := fun k hk => updP_ne (by omega)
  have e3 : ∀ x k, updP P s i j v 3 x k = P 3 x k := fun x k => updP_ne (by omega)
  have e6 : ∀ x k, updP P s i j v 6 x k = P 6 x k := fun x k => updP_ne (by omega)
  have es : tSh (updP P s i j v) b = tSh P b := by unfold tSh; rw [e4 0 (by decide)]
  unfold tTallyN tForD
  rw [es, e4 1 (by decide), e4 2 (by decide), e3, e3, e6, e6, e6, e6]
  by_cases e : s' = s ∧ i' = i ∧ j' = j
  · obtain ⟨rfl, rfl, rfl⟩ := e
    rw [if_neg (fun q => h6 q.1), updP_eq, updP_eq]
  · rw [updP_ne e, updP_ne e]
theorem tTally_upd {P : zP} {b w s i j : Nat} {v : Int32} (h6 : s ≠ 6) (h3 : s ≠ 3) (h4 : s = 4 → 4 ≤ j) (h0 : s ≠ 0) : tTally (updP P s i j v) b w = updP (tTally P b w) s i j v := by
  unfold tTally
  rw [pcn_upd (by omega)]
  exact tTallyN_upd h6 h3 h4
theorem updP_comm {P : zP} {s i j s' i' j' : Nat} {v v' : Int32} (h : ¬ (s = s' ∧ i = i' ∧ j = j')) : updP (updP P s i j v) s' i' j' v' = updP (updP P s' i' j' v') s i j v := by
  funext x y z
  by_cases e : x = s ∧ y = i ∧ z = j
  · obtain ⟨rfl, rfl, rfl⟩ := e
    rw [updP_ne h, updP_eq, updP_eq]
  · by_cases e' : x = s' ∧ y = i' ∧ z = j'
    · obtain ⟨rfl, rfl, rfl⟩ := e'
      rw [updP_eq, updP_ne e, updP_eq]
    · rw [updP_ne e', updP_ne e, updP_ne e, updP_ne e']
/-- closing doesn't look at lamps -/
theorem tCloseN_lamp {P : zP} {D : Nat → Int32} {s l j : Nat} {st v : Int32} (hst : st ≠ 4) : ∀ n, (tCloseN (updP P 2 l j v) D s st n).1 = updP (tCloseN P D s st n).1 2 l j v
  | 0 => rfl
  | n + 1 => by
    have ih := tCloseN_lamp (P := P) (D := D) (s := s) (l := l) (j := j) (v := v) hst n
    have e : ∀ a b c, a ≠ 2 → updP P 2 l j v a b c = P a b c := fun a b c h => updP_ne (by omega)
    unfold tCloseN
    rw [e 4 n 0 (by decide), e 4 n 4 (by decide)]
    split
    · try rw [if_neg hst, if_neg hst]
      show tCloseQ _ _ _ _ = updP (tCloseQ _ _ _ _) _ _ _ _
      unfold tCloseQ
      rw [ih, e 4 n 5 (by decide), e 0 0 3 (by decide), tTally_upd (by decide) (by decide) (fun h => absurd h (by decide)) (by decide)]
      generalize tTally (tCloseN P D s st n).1 n (if st = 1 then 0 else 3) = T
      have e1 : updP (updP T 2 l j v) 4 n 4 st = updP (updP T 4 n 4 st) 2 l j v := updP_comm (by omega)
      rw [e1]
      exact updP_comm (by omega)
    · exact ih
section ZPJ
variable {G : zG} {μ : zM} {p o : Nat} {P : zP} {A : Nat → Nat → Nat} {c : Nat → Int32}
/-- a booking's state or refund changes -/
theorem zPR.bset {μ' : zM} {b r : Nat} {f : Nat → Int32} {st rf : Int32} (h : zPR G μ p o P A c) (hO : tOk P) (hb : b < pcn P 10) (hob : μ (A 4 b) = some (obT 4 b o, oBk (P 4 b 0) (P 4 b 1) (P 4 b 2) (P 4 b 3) (P 4 b 5) (P 4 b 4) (P 4 b 6) r)) (hr : μ r = some (oaT 4 b o, aI G 8 f)) (hf : ∀ j, j < 8 → f j = P 4 b (8 + j)) (hμ : μ' = updM μ (A 4 b) (obT 4 b o, oBk (P 4 b 0) (P 4 b 1) (P 4 b 2) (P 4 b 3) (P 4 b 5) st rf r)) : zPR G μ' p o (updP (updP P 4 b 4 st) 4 b 6 rf) A c ∧ zKp (zKo o) μ μ' := by
  have hne : r ≠ A 4 b := zneq hr hob (by simp)
  have en : ∀ j, j ≠ 4 → j ≠ 6 → updP (updP P 4 b 4 st) 4 b 6 rf 4 b j = P 4 b j := fun j h1 h2 => (updP_ne (by omega)).trans (updP_ne (by omega))
  have e4 : updP (updP P 4 b 4 st) 4 b 6 rf 4 b 4 = st := (updP_ne (by omega)).trans (updP_eq _ _ _ _ _)
  have e6 : updP (updP P 4 b 4 st) 4 b 6 rf 4 b 6 = rf := updP_eq _ _ _ _ _
  refine ⟨h.one (s0 := 4) (i0 := b) hO (Or.inr (Or.inr (Or.inr (Or.inl rfl)))) hb (hμ ▸ zKp.put hob (Or.inl rfl)) (fun j => by rw [updP_ne (by omega), updP_ne (by omega)]) ?_ ?_, hμ ▸ zKp.put hob zKo.ob⟩
  · refine ⟨r, f, ?_, hμ ▸ (updM_ne hne).trans hr, fun j hj => ?_⟩
    · rw [en 0 (by decide) (by decide), en 1 (by decide) (by decide), en 2 (by decide) (by decide), en 3 (by decide) (by decide), en 5 (by decide) (by decide), e4, e6, hμ]
      exact updM_eq _ _ _
    · rw [updP_ne (by omega), updP_ne (by omega)]; exact hf j hj
  · intro s i _ _ hn
    refine ⟨fun j _ => by rw [updP_ne (by omega), updP_ne (by omega)], fun _ j hj => ?_⟩
    unfold tFreeIn
    rw [pcn_upd (by omega), pcn_upd (by omega)]
    exact tFreeInF_congr _ (fun x _ => ⟨by rw [updP_ne (by omega), updP_ne (by omega)], by rw [updP_ne (by omega), updP_ne (by omega)]⟩)
/-- a show's own fields change -/
theorem zPR.sset {μ' : zM} {i j0 t r : Nat} {f : Nat → Int32} {v k st la wo mo : Int32} (h : zPR G μ p o P A c) (hO : tOk P) (hi : i < pcn P 9) (hob : μ (A 3 i) = some (obT 3 i o, oSh (P 3 i 0) t (P 3 i 3) (P 3 i 4) (P 3 i 5) (P 3 i 6) r)) (htm : μ t = some ((0, 0), oTime (P 3 i 1) (P 3 i 2))) (hr : μ r = some (oaT 3 i o, aI G 8 f)) (hf : ∀ j, j < 8 → f j = tFreeIn P (nI i) j) (hμ : μ' = updM μ (A 3 i) (obT 3 i o, oSh k t st la wo mo r)) (e0 : updP P 3 i j0 v 3 i 0 = k) (e1 : j0 ≠ 1 ∧ j0 ≠ 2) (e3 : updP P 3 i j0 v 3 i 3 = st) (e4 : updP P 3 i j0 v 3 i 4 = la) (e5 : updP P 3 i j0 v 3 i 5 = wo) (e6 : updP P 3 i j0 v 3 i 6 = mo) : zPR G μ' p o (updP P 3 i j0 v) A c ∧ zKp (zKo o) μ μ' := by
  have n1 : r ≠ A 3 i := zneq hr hob (by simp)
  have n2 : t ≠ A 3 i := zneq htm hob (by simp)
  refine ⟨h.set hO (Or.inr (Or.inr (Or.inl rfl))) (by decide) hi (hμ ▸ zKp.put hob (Or.inl rfl)) ?_, hμ ▸ zKp.put hob zKo.ob⟩
  refine ⟨t, r, f, ?_, ?_, hμ ▸ (updM_ne n1).trans hr, fun j hj => ?_⟩
  · rw [e0, e3, e4, e5, e6, hμ]; exact updM_eq _ _ _
  · rw [updP_ne (by omega), updP_ne (by omega), hμ]; exact (updM_ne n2).trans htm
  · rw [hf j hj]
    unfold tFreeIn
    rw [pcn_upd (by omega)]
    exact (tFreeInF_congr _ (fun x _ => ⟨updP_ne (by omega), updP_ne (by omega)⟩)).symm
end ZPJ
