/-! THE TWIN, part 3: stores into it -/
set_option maxRecDepth 100000
/-- the r-th array's contents set -/
def setK (K : Nat → Nat → Int32) (r : Nat) (f : Nat → Int32) : Nat → Nat → Int32 := fun r' => if r' = r then f else K r'
theorem setK_eq (K : Nat → Nat → Int32) (r : Nat) (f : Nat → Int32) : setK K r f r = f := if_pos rfl
theorem setK_ne {K : Nat → Nat → Int32} {r r' : Nat} {f : Nat → Int32} (h : r' ≠ r) : setK K r f r' = K r' := if_neg h
theorem setK_twice (K : Nat → Nat → Int32) (r : Nat) (f g : Nat → Int32) : setK (setK K r f) r g = setK K r g := by
  funext r'; by_cases h : r' = r <;> simp [setK, h]
theorem setK_self (K : Nat → Nat → Int32) (r : Nat) : setK K r (K r) = K := by
  funext r'; by_cases h : r' = r <;> simp [setK, h]
theorem setK_comm (K : Nat → Nat → Int32) {r r' : Nat} (f g : Nat → Int32) (h : r ≠ r') : setK (setK K r f) r' g = setK (setK K r' g) r f := by
  funext x
  by_cases h1 : x = r
  · subst h1; simp [setK, h]
  · by_cases h2 : x = r'
    · subst h2; simp [setK, h1]
    · simp [setK, h1, h2]
/-- a twin's write -/
def tTw : Nat → zT → Prop := fun _ t => t.1 = 2
theorem zTw.st1 {G : zG} {μ μ1 : zM} {m : Nat} {lam : Nat → Nat} {K : Nat → Nat → Int32} (hT : zTw G μ m lam K) {f : Nat → Int32} (hμ : μ1 = updM μ (lam 1) ((2, 1), aI G 1980 f)) : zTw G μ1 m lam (setK K 1 f) ∧ zKp tTw μ μ1 := by
  obtain ⟨h0, h1, h2, h3, h4, h5, h6, h7, h8, h9, h10⟩ := hT
  refine ⟨⟨hμ ▸ (updM_ne (zneq h0 h1 (by simp))).trans h0, hμ ▸ (updM_eq _ _ _).trans (by rw [setK_eq]), hμ ▸ (updM_ne (zneq h2 h1 (by simp))).trans h2, hμ ▸ (updM_ne (zneq h3 h1 (by simp))).trans h3, hμ ▸ (updM_ne (zneq h4 h1 (by simp))).trans h4, hμ ▸ (updM_ne (zneq h5 h1 (by simp))).trans h5, hμ ▸ (updM_ne (zneq h6 h1 (by simp))).trans h6, hμ ▸ (updM_ne (zneq h7 h1 (by simp))).trans h7, hμ ▸ (updM_ne (zneq h8 h1 (by simp))).trans h8, hμ ▸ (updM_ne (zneq h9 h1 (by simp))).trans h9, hμ ▸ (updM_ne (zneq h10 h1 (by simp))).trans h10⟩, ?_⟩
  rw [hμ]; exact zKp.put h1 rfl
theorem zTw.st2 {G : zG} {μ μ1 : zM} {m : Nat} {lam : Nat → Nat} {K : Nat → Nat → Int32} (hT : zTw G μ m lam K) {f : Nat → Int32} (hμ : μ1 = updM μ (lam 2) ((2, 2), aI G 1980 f)) : zTw G μ1 m lam (setK K 2 f) ∧ zKp tTw μ μ1 := by
  obtain ⟨h0, h1, h2, h3, h4, h5, h6, h7, h8, h9, h10⟩ := hT
  refine ⟨⟨hμ ▸ (updM_ne (zneq h0 h2 (by simp))).trans h0, hμ ▸ (updM_ne (zneq h1 h2 (by simp))).trans h1, hμ ▸ (updM_eq _ _ _).trans (by rw [setK_eq]), hμ ▸ (updM_ne (zneq h3 h2 (by simp))).trans h3, hμ ▸ (updM_ne (zneq h4 h2 (by simp))).trans h4, hμ ▸ (updM_ne (zneq h5 h2 (by simp))).trans h5, hμ ▸ (updM_ne (zneq h6 h2 (by simp))).trans h6, hμ ▸ (updM_ne (zneq h7 h2 (by simp))).trans h7, hμ ▸ (updM_ne (zneq h8 h2 (by simp))).trans h8, hμ ▸ (updM_ne (zneq h9 h2 (by simp))).trans h9, hμ ▸ (updM_ne (zneq h10 h2 (by simp))).trans h10⟩, ?_⟩
  rw [hμ]; exact zKp.put h2 rfl
theorem zTw.st3 {G : zG} {μ μ1 : zM} {m : Nat} {lam : Nat → Nat} {K : Nat → Nat → Int32} (hT : zTw G μ m lam K) {f : Nat → Int32} (hμ : μ1 = updM μ (lam 3) ((2, 3), aI G 11880 f)) : zTw G μ1 m lam (setK K 3 f) ∧ zKp tTw μ μ1 := by
  obtain ⟨h0, h1, h2, h3, h4, h5, h6, h7, h8, h9, h10⟩ := hT
  refine ⟨⟨hμ ▸ (updM_ne (zneq h0 h3 (by simp))).trans h0, hμ ▸ (updM_ne (zneq h1 h3 (by simp))).trans h1, hμ ▸ (updM_ne (zneq h2 h3 (by simp))).trans h2, hμ ▸ (updM_eq _ _ _).trans (by rw [setK_eq]), hμ ▸ (updM_ne (zneq h4 h3 (by simp))).trans h4, hμ ▸ (updM_ne (zneq h5 h3 (by simp))).trans h5, hμ ▸ (updM_ne (zneq h6 h3 (by simp))).trans h6, hμ ▸ (updM_ne (zneq h7 h3 (by simp))).trans h7, hμ ▸ (updM_ne (zneq h8 h3 (by simp))).trans h8, hμ ▸ (updM_ne (zneq h9 h3 (by simp))).trans h9, hμ ▸ (updM_ne (zneq h10 h3 (by simp))).trans h10⟩, ?_⟩
  rw [hμ]; exact zKp.put h3 rfl
theorem zTw.st4 {G : zG} {μ μ1 : zM} {m : Nat} {lam : Nat → Nat} {K : Nat → Nat → Int32} (hT : zTw G μ m lam K) {f : Nat → Int32} (hμ : μ1 = updM μ (lam 4) ((2, 4), aI G 3960 f)) : zTw G μ1 m lam (setK K 4 f) ∧ zKp tTw μ μ1 := by
  obtain ⟨h0, h1, h2, h3, h4, h5, h6, h7, h8, h9, h10⟩ := hT
  refine ⟨⟨hμ ▸ (updM_ne (zneq h0 h4 (by simp))).trans h0, hμ ▸ (updM_ne (zneq h1 h4 (by simp))).trans h1, hμ ▸ (updM_ne (zneq h2 h4 (by simp))).trans h2, hμ ▸ (updM_ne (zneq h3 h4 (by simp))).trans h3, hμ ▸ (updM_eq _ _ _).trans (by rw [setK_eq]), hμ ▸ (updM_ne (zneq h5 h4 (by simp))).trans h5, hμ ▸ (updM_ne (zneq h6 h4 (by simp))).trans h6, hμ ▸ (updM_ne (zneq h7 h4 (by simp))).trans h7, hμ ▸ (updM_ne (zneq h8 h4 (by simp))).trans h8, hμ ▸ (updM_ne (zneq h9 h4 (by simp))).trans h9, hμ ▸ (updM_ne (zneq h10 h4 (by simp))).trans h10⟩, ?_⟩
  rw [hμ]; exact zKp.put h4 rfl
theorem zTw.st5 {G : zG} {μ μ1 : zM} {m : Nat} {lam : Nat → Nat} {K : Nat → Nat → Int32} (hT : zTw G μ m lam K) {f : Nat → Int32} (hμ : μ1 = updM μ (lam 5) ((2, 5), aZ G 2 f)) : zTw G μ1 m lam (setK K 5 f) ∧ zKp tTw μ μ1 := by
  obtain ⟨h0, h1, h2, h3, h4, h5, h6, h7, h8, h9, h10⟩ := hT
  refine ⟨⟨hμ ▸ (updM_ne (zneq h0 h5 (by simp))).trans h0, hμ ▸ (updM_ne (zneq h1 h5 (by simp))).trans h1, hμ ▸ (updM_ne (zneq h2 h5 (by simp))).trans h2, hμ ▸ (updM_ne (zneq h3 h5 (by simp))).trans h3, hμ ▸ (updM_ne (zneq h4 h5 (by simp))).trans h4, hμ ▸ (updM_eq _ _ _).trans (by rw [setK_eq]), hμ ▸ (updM_ne (zneq h6 h5 (by simp))).trans h6, hμ ▸ (updM_ne (zneq h7 h5 (by simp))).trans h7, hμ ▸ (updM_ne (zneq h8 h5 (by simp))).trans h8, hμ ▸ (updM_ne (zneq h9 h5 (by simp))).trans h9, hμ ▸ (updM_ne (zneq h10 h5 (by simp))).trans h10⟩, ?_⟩
  rw [hμ]; exact zKp.put h5 rfl
theorem zTw.st6 {G : zG} {μ μ1 : zM} {m : Nat} {lam : Nat → Nat} {K : Nat → Nat → Int32} (hT : zTw G μ m lam K) {f : Nat → Int32} (hμ : μ1 = updM μ (lam 6) ((2, 6), aI G 80 f)) : zTw G μ1 m lam (setK K 6 f) ∧ zKp tTw μ μ1 := by
  obtain ⟨h0, h1, h2, h3, h4, h5, h6, h7, h8, h9, h10⟩ := hT
  refine ⟨⟨hμ ▸ (updM_ne (zneq h0 h6 (by simp))).trans h0, hμ ▸ (updM_ne (zneq h1 h6 (by simp))).trans h1, hμ ▸ (updM_ne (zneq h2 h6 (by simp))).trans h2, hμ ▸ (updM_ne (zneq h3 h6 (by simp))).trans h3, hμ ▸ (updM_ne (zneq h4 h6 (by simp))).trans h4, hμ ▸ (updM_ne (zneq h5 h6 (by simp))).trans h5, hμ ▸ (updM_eq _ _ _).trans (by rw [setK_eq]), hμ ▸ (updM_ne (zneq h7 h6 (by simp))).trans h7, hμ ▸ (updM_ne (zneq h8 h6 (by simp))).trans h8, hμ ▸ (updM_ne (zneq h9 h6 (by simp))).trans h9, hμ ▸ (updM_ne (zneq h10 h6 (by simp))).trans h10⟩, ?_⟩
  rw [hμ]; exact zKp.put h6 rfl
theorem zTw.st7 {G : zG} {μ μ1 : zM} {m : Nat} {lam : Nat → Nat} {K : Nat → Nat → Int32} (hT : zTw G μ m lam K) {f : Nat → Int32} (hμ : μ1 = updM μ (lam 7) ((2, 7), aI G 8 f)) : zTw G μ1 m lam (setK K 7 f) ∧ zKp tTw μ μ1 := by
  obtain ⟨h0, h1, h2, h3, h4, h5, h6, h7, h8, h9, h10⟩ := hT
  refine ⟨⟨hμ ▸ (updM_ne (zneq h0 h7 (by simp))).trans h0, hμ ▸ (updM_ne (zneq h1 h7 (by simp))).trans h1, hμ ▸ (updM_ne (zneq h2 h7 (by simp))).trans h2, hμ ▸ (updM_ne (zneq h3 h7 (by simp))).trans h3, hμ ▸ (updM_ne (zneq h4 h7 (by simp))).trans h4, hμ ▸ (updM_ne (zneq h5 h7 (by simp))).trans h5, hμ ▸ (updM_ne (zneq h6 h7 (by simp))).trans h6, hμ ▸ (updM_eq _ _ _).trans (by rw [setK_eq]), hμ ▸ (updM_ne (zneq h8 h7 (by simp))).trans h8, hμ ▸ (updM_ne (zneq h9 h7 (by simp))).trans h9, hμ ▸ (updM_ne (zneq h10 h7 (by simp))).trans h10⟩, ?_⟩
  rw [hμ]; exact zKp.put h7 rfl
theorem zTw.st8 {G : zG} {μ μ1 : zM} {m : Nat} {lam : Nat → Nat} {K : Nat → Nat → Int32} (hT : zTw G μ m lam K) {f : Nat → Int32} (hμ : μ1 = updM μ (lam 8) ((2, 8), aI G 4 f)) : zTw G μ1 m lam (setK K 8 f) ∧ zKp tTw μ μ1 := by
  obtain ⟨h0, h1, h2, h3, h4, h5, h6, h7, h8, h9, h10⟩ := hT
  refine ⟨⟨hμ ▸ (updM_ne (zneq h0 h8 (by simp))).trans h0, hμ ▸ (updM_ne (zneq h1 h8 (by simp))).trans h1, hμ ▸ (updM_ne (zneq h2 h8 (by simp))).trans h2, hμ ▸ (updM_ne (zneq h3 h8 (by simp))).trans h3, hμ ▸ (updM_ne (zneq h4 h8 (by simp))).trans h4, hμ ▸ (updM_ne (zneq h5 h8 (by simp))).trans h5, hμ ▸ (updM_ne (zneq h6 h8 (by simp))).trans h6, hμ ▸ (updM_ne (zneq h7 h8 (by simp))).trans h7, hμ ▸ (updM_eq _ _ _).trans (by rw [setK_eq]), hμ ▸ (updM_ne (zneq h9 h8 (by simp))).trans h9, hμ ▸ (updM_ne (zneq h10 h8 (by simp))).trans h10⟩, ?_⟩
  rw [hμ]; exact zKp.put h8 rfl
theorem zTw.st9 {G : zG} {μ μ1 : zM} {m : Nat} {lam : Nat → Nat} {K : Nat → Nat → Int32} (hT : zTw G μ m lam K) {f : Nat → Int32} (hμ : μ1 = updM μ (lam 9) ((2, 9), aI G 60 f)) : zTw G μ1 m lam (setK K 9 f) ∧ zKp tTw μ μ1 := by
  obtain ⟨h0, h1, h2, h3, h4, h5, h6, h7, h8, h9, h10⟩ := hT
  refine ⟨⟨hμ ▸ (updM_ne (zneq h0 h9 (by simp))).trans h0, hμ ▸ (updM_ne (zneq h1 h9 (by simp))).trans h1, hμ ▸ (updM_ne (zneq h2 h9 (by simp))).trans h2, hμ ▸ (updM_ne (zneq h3 h9 (by simp))).trans h3, hμ ▸ (updM_ne (zneq h4 h9 (by simp))).trans h4, hμ ▸ (updM_ne (zneq h5 h9 (by simp))).trans h5, hμ ▸ (updM_ne (zneq h6 h9 (by simp))).trans h6, hμ ▸ (updM_ne (zneq h7 h9 (by simp))).trans h7, hμ ▸ (updM_ne (zneq h8 h9 (by simp))).trans h8, hμ ▸ (updM_eq _ _ _).trans (by rw [setK_eq]), hμ ▸ (updM_ne (zneq h10 h9 (by simp))).trans h10⟩, ?_⟩
  rw [hμ]; exact zKp.put h9 rfl
theorem zTw.st10 {G : zG} {μ μ1 : zM} {m : Nat} {lam : Nat → Nat} {K : Nat → Nat → Int32} (hT : zTw G μ m lam K) {f : Nat → Int32} (hμ : μ1 = updM μ (lam 10) ((2, 10), aI G 200 f)) : zTw G μ1 m lam (setK K 10 f) ∧ zKp tTw μ μ1 := by
  obtain ⟨h0, h1, h2, h3, h4, h5, h6, h7, h8, h9, h10⟩ := hT
  refine ⟨⟨hμ ▸ (updM_ne (zneq h0 h10 (by simp))).trans h0, hμ ▸ (updM_ne (zneq h1 h10 (by simp))).trans h1, hμ ▸ (updM_ne (zneq h2 h10 (by simp))).trans h2, hμ ▸ (updM_ne (zneq h3 h10 (by simp))).trans h3, hμ ▸ (updM_ne (zneq h4 h10 (by simp))).trans h4, hμ ▸ (updM_ne (zneq h5 h10 (by simp))).trans h5, hμ ▸ (updM_ne (zneq h6 h10 (by simp))).trans h6, hμ ▸ (updM_ne (zneq h7 h10 (by simp))).trans h7, hμ ▸ (updM_ne (zneq h8 h10 (by simp))).trans h8, hμ ▸ (updM_ne (zneq h9 h10 (by simp))).trans h9, hμ ▸ (updM_eq _ _ _).trans (by rw [setK_eq])⟩, ?_⟩
  rw [hμ]; exact zKp.put h10 rfl
theorem zTw.sc {G : zG} {μ μ1 : zM} {m : Nat} {lam : Nat → Nat} {K : Nat → Nat → Int32} {K' : Nat → Nat → Int32} (hT : zTw G μ m lam K) (hK : ∀ r, r ≠ 0 → K' r = K r) (hμ : μ1 = updM μ m ((2, 0), oTw lam K')) : zTw G μ1 m lam K' ∧ zKp tTw μ μ1 := by
  obtain ⟨h0, h1, h2, h3, h4, h5, h6, h7, h8, h9, h10⟩ := hT
  refine ⟨⟨hμ ▸ updM_eq _ _ _, (by rw [hK 1 (by decide)]; exact hμ ▸ (updM_ne (zneq h1 h0 (by simp))).trans h1), (by rw [hK 2 (by decide)]; exact hμ ▸ (updM_ne (zneq h2 h0 (by simp))).trans h2), (by rw [hK 3 (by decide)]; exact hμ ▸ (updM_ne (zneq h3 h0 (by simp))).trans h3), (by rw [hK 4 (by decide)]; exact hμ ▸ (updM_ne (zneq h4 h0 (by simp))).trans h4), (by rw [hK 5 (by decide)]; exact hμ ▸ (updM_ne (zneq h5 h0 (by simp))).trans h5), (by rw [hK 6 (by decide)]; exact hμ ▸ (updM_ne (zneq h6 h0 (by simp))).trans h6), (by rw [hK 7 (by decide)]; exact hμ ▸ (updM_ne (zneq h7 h0 (by simp))).trans h7), (by rw [hK 8 (by decide)]; exact hμ ▸ (updM_ne (zneq h8 h0 (by simp))).trans h8), (by rw [hK 9 (by decide)]; exact hμ ▸ (updM_ne (zneq h9 h0 (by simp))).trans h9), (by rw [hK 10 (by decide)]; exact hμ ▸ (updM_ne (zneq h10 h0 (by simp))).trans h10)⟩, ?_⟩
  rw [hμ]; exact zKp.put h0 rfl
theorem zTP.st {G : zG} {μ μ1 : zM} {m : Nat} {lam : Nat → Nat} {K : Nat → Nat → Int32} {P : zP} (hT : zTP G μ m lam K P) {s i c k : Nat} {v : Int32} (hs : s < 7) (hi : i < tC s) (hc : c < tW s) (hk : tB s + tW s * i + c = k) (hμ : μ1 = updM μ (lam 1) ((2, 1), aI G 1980 (upd (K 1) k v))) (hok : tOk (updP P s i c v)) :
    zTP G μ1 m lam (setK K 1 (upd (K 1) k v)) (updP P s i c v) ∧ zKp tTw μ μ1 := by
  obtain ⟨h1, h2⟩ := hT.1.st1 hμ
  refine ⟨⟨h1, ?_, hok⟩, h2⟩
  rw [setK_eq, ← hk]
  exact hT.2.1.upd hs hi hc v
theorem zTP.other {G : zG} {μ μ1 : zM} {m : Nat} {lam : Nat → Nat} {K K' : Nat → Nat → Int32} {P : zP} (hT : zTP G μ m lam K P) (h : zTw G μ1 m lam K') (e : K' 1 = K 1) : zTP G μ1 m lam K' P := ⟨h, by rw [e]; exact hT.2.1, hT.2.2⟩
theorem zTP.a2 {G : zG} {μ : zM} {m : Nat} {lam : Nat → Nat} {K : Nat → Nat → Int32} {P : zP} (h : zTP G μ m lam K P) : μ (lam 2) = some ((2, 2), aI G 1980 (K 2)) := h.1.2.2.1
theorem zTP.a3 {G : zG} {μ : zM} {m : Nat} {lam : Nat → Nat} {K : Nat → Nat → Int32} {P : zP} (h : zTP G μ m lam K P) : μ (lam 3) = some ((2, 3), aI G 11880 (K 3)) := h.1.2.2.2.1
theorem zTP.a4 {G : zG} {μ : zM} {m : Nat} {lam : Nat → Nat} {K : Nat → Nat → Int32} {P : zP} (h : zTP G μ m lam K P) : μ (lam 4) = some ((2, 4), aI G 3960 (K 4)) := h.1.2.2.2.2.1
theorem zTP.a5 {G : zG} {μ : zM} {m : Nat} {lam : Nat → Nat} {K : Nat → Nat → Int32} {P : zP} (h : zTP G μ m lam K P) : μ (lam 5) = some ((2, 5), aZ G 2 (K 5)) := h.1.2.2.2.2.2.1
theorem zTP.a6 {G : zG} {μ : zM} {m : Nat} {lam : Nat → Nat} {K : Nat → Nat → Int32} {P : zP} (h : zTP G μ m lam K P) : μ (lam 6) = some ((2, 6), aI G 80 (K 6)) := h.1.2.2.2.2.2.2.1
theorem zTP.a8 {G : zG} {μ : zM} {m : Nat} {lam : Nat → Nat} {K : Nat → Nat → Int32} {P : zP} (h : zTP G μ m lam K P) : μ (lam 8) = some ((2, 8), aI G 4 (K 8)) := h.1.2.2.2.2.2.2.2.2.1
theorem zTP.a9 {G : zG} {μ : zM} {m : Nat} {lam : Nat → Nat} {K : Nat → Nat → Int32} {P : zP} (h : zTP G μ m lam K P) : μ (lam 9) = some ((2, 9), aI G 60 (K 9)) := h.1.2.2.2.2.2.2.2.2.2.1
theorem zTP.a10 {G : zG} {μ : zM} {m : Nat} {lam : Nat → Nat} {K : Nat → Nat → Int32} {P : zP} (h : zTP G μ m lam K P) : μ (lam 10) = some ((2, 10), aI G 200 (K 10)) := h.1.2.2.2.2.2.2.2.2.2.2
