/-! THE PROGRAMME in memory. Owner o: its tags are (n, o); its maps have tags below 20000 -/
set_option maxRecDepth 100000
section ZPG
variable {G : zG} {μ : zM} {p o : Nat} {P : zP} {A : Nat → Nat → Nat} {c : Nat → Int32}
abbrev pgT (s o : Nat) : zT := (20000 + s, o)
abbrev lsT (s o : Nat) : zT := (20010 + 2 * s, o)
abbrev laT (s o : Nat) : zT := (20011 + 2 * s, o)
abbrev obT (s i o : Nat) : zT := (30000 + 1000 * s + 2 * i, o)
abbrev oaT (s i o : Nat) : zT := (30001 + 1000 * s + 2 * i, o)
/-- the sorts that have lists: kinds, lamps, shows, bookings, promises -/
def zS (s : Nat) : Prop := s = 1 ∨ s = 2 ∨ s = 3 ∨ s = 4 ∨ s = 6
/-- A: addresses (0 0 settings, 0 1 planned, 0 2 events; 7 s the list of sort s, s i its elements); c: 0 held, s how often its list was changed -/
abbrev oPG (A : Nat → Nat → Nat) (c : Nat → Int32) (P : zP) : va_E := .inr (1, [.ref (A 0 0), .ref (A 7 1), .ref (A 7 2), .ref (A 7 3), .ref (A 7 4), .ref (A 7 6), .ref (A 0 1), .ref (A 0 2), .int (P 0 0 11), .int (P 0 0 6), .int (c 0)])
def zOSh (G : zG) (μ : zM) (o : Nat) (P : zP) (a i : Nat) : Prop := ∃ t r f, μ a = some (obT 3 i o, oSh (P 3 i 0) t (P 3 i 3) (P 3 i 4) (P 3 i 5) (P 3 i 6) r) ∧ μ t = some ((0, 0), oTime (P 3 i 1) (P 3 i 2)) ∧ μ r = some (oaT 3 i o, aI G 8 f) ∧ ∀ j, j < 8 → f j = tFreeIn P (nI i) j
def zOBk (G : zG) (μ : zM) (o : Nat) (P : zP) (a i : Nat) : Prop := ∃ r f, μ a = some (obT 4 i o, oBk (P 4 i 0) (P 4 i 1) (P 4 i 2) (P 4 i 3) (P 4 i 5) (P 4 i 4) (P 4 i 6) r) ∧ μ r = some (oaT 4 i o, aI G 8 f) ∧ ∀ j, j < 8 → f j = P 4 i (8 + j)
def zOPr (G : zG) (μ : zM) (o : Nat) (P : zP) (a i : Nat) : Prop := ∃ r f, μ a = some (obT 6 i o, oPr (P 6 i 0) (P 6 i 1) (P 6 i 2) (P 6 i 3) (P 6 i 4) r) ∧ μ r = some (oaT 6 i o, aI G 5 f) ∧ ∀ j, j < 5 → f j = P 6 i (5 + j)
def zO (G : zG) (μ : zM) (o : Nat) (P : zP) (a s i : Nat) : Prop := match s with
  | 1 => μ a = some (obT 1 i o, oKind (P 1 i 0) (P 1 i 1) (P 1 i 2))
  | 2 => μ a = some (obT 2 i o, oLamp (P 2 i 0) (P 2 i 1) (P 2 i 2))
  | 3 => zOSh G μ o P a i
  | 4 => zOBk G μ o P a i
  | 6 => zOPr G μ o P a i
  | _ => True
/-- the programme at p: what memory says of all but the maps -/
def zPR (G : zG) (μ : zM) (p o : Nat) (P : zP) (A : Nat → Nat → Nat) (c : Nat → Int32) : Prop := μ p = some (pgT 0 o, oPG A c P) ∧ (∃ f, μ (A 0 0) = some (pgT 1 o, aI G 6 f) ∧ ∀ j, j < 6 → f j = P 0 0 j) ∧ ∀ s, zS s → zAL G μ (lsT s o) (laT s o) (A 7 s) (c s) (pcn P (6 + s)) (A s) ∧ ∀ i, i < pcn P (6 + s) → zO G μ o P (A s i) s i
/-- what of a row of numbers an object shows -/
def zSm (P P' : zP) (s i : Nat) : Prop := (∀ j, j < 16 → P' s i j = P s i j) ∧ (s = 3 → ∀ j, j < 8 → tFreeIn P' (nI i) j = tFreeIn P (nI i) j)
theorem zSm.rf {s i : Nat} : zSm P P s i := ⟨fun _ _ => rfl, fun _ _ _ => rfl⟩
theorem zO.kp {T : Nat → zT → Prop} {μ' : zM} {P' : zP} {a s i : Nat} (h : zO G μ o P a s i) (hs : zS s) (hk : zKp T μ μ') (h0 : ∀ b, ¬ T b (0, 0)) (h1 : ∀ b, ¬ T b (obT s i o)) (h2 : ∀ b, ¬ T b (oaT s i o)) (hm : zSm P P' s i) : zO G μ' o P' a s i := by
  obtain ⟨m1, m2⟩ := hm
  rcases hs with rfl | rfl | rfl | rfl | rfl
  · have h : μ a = _ := h
    show μ' a = _
    rw [m1 0 (by decide), m1 1 (by decide), m1 2 (by decide)]
    exact hk _ _ _ h (h1 _)
  · have h : μ a = _ := h
    show μ' a = _
    rw [m1 0 (by decide), m1 1 (by decide), m1 2 (by decide)]
    exact hk _ _ _ h (h1 _)
  · obtain ⟨t, r, f, g1, g2, g3, g4⟩ := h
    refine ⟨t, r, f, ?_, ?_, hk _ _ _ g3 (h2 _), fun j hj => (g4 j hj).trans (m2 rfl j hj).symm⟩
    · rw [m1 0 (by decide), m1 3 (by decide), m1 4 (by decide), m1 5 (by decide), m1 6 (by decide)]
      exact hk _ _ _ g1 (h1 _)
    · rw [m1 1 (by decide), m1 2 (by decide)]
      exact hk _ _ _ g2 (h0 _)
  · obtain ⟨r, f, g1, g3, g4⟩ := h
    refine ⟨r, f, ?_, hk _ _ _ g3 (h2 _), fun j hj => (g4 j hj).trans (m1 (8 + j) (by omega)).symm⟩
    rw [m1 0 (by decide), m1 1 (by decide), m1 2 (by decide), m1 3 (by decide), m1 4 (by decide), m1 5 (by decide), m1 6 (by decide)]
    exact hk _ _ _ g1 (h1 _)
  · obtain ⟨r, f, g1, g3, g4⟩ := h
    refine ⟨r, f, ?_, hk _ _ _ g3 (h2 _), fun j hj => (g4 j hj).trans (m1 (5 + j) (by omega)).symm⟩
    rw [m1 0 (by decide), m1 1 (by decide), m1 2 (by decide), m1 3 (by decide), m1 4 (by decide)]
    exact hk _ _ _ g1 (h1 _)
/-- nothing of the programme is named -/
theorem zPR.kp {T : Nat → zT → Prop} {μ' : zM} (h : zPR G μ p o P A c) (hk : zKp T μ μ') (hT : ∀ b u, u = (0, 0) ∨ (u.2 = o ∧ 20000 ≤ u.1) → ¬ T b u) : zPR G μ' p o P A c := by
  obtain ⟨h1, ⟨f, h2, h3⟩, h4⟩ := h
  refine ⟨hk _ _ _ h1 (hT _ _ (Or.inr ⟨rfl, Nat.le_refl _⟩)), ⟨f, hk _ _ _ h2 (hT _ _ (Or.inr ⟨rfl, by show 20000 ≤ 20000 + 1; omega⟩)), h3⟩, fun s hs => ⟨(h4 s hs).1.kp hk (fun b => hT _ _ (Or.inr ⟨rfl, ?_⟩)) (fun b => hT _ _ (Or.inr ⟨rfl, ?_⟩)), fun i hi => ((h4 s hs).2 i hi).kp hs hk (fun b => hT _ _ (Or.inl rfl)) (fun b => hT _ _ (Or.inr ⟨rfl, ?_⟩)) (fun b => hT _ _ (Or.inr ⟨rfl, ?_⟩)) zSm.rf⟩⟩
  · show 20000 ≤ 20010 + 2 * s; omega
  · show 20000 ≤ 20011 + 2 * s; omega
  · show 20000 ≤ 30000 + 1000 * s + 2 * i; omega
  · show 20000 ≤ 30001 + 1000 * s + 2 * i; omega
theorem tOk.pb (hO : tOk P) {s : Nat} (hs : zS s) : pcn P (6 + s) ≤ 80 := by
  rcases hs with rfl | rfl | rfl | rfl | rfl
  · exact Nat.le_trans hO.k.2 (by decide)
  · exact Nat.le_trans hO.l.2 (by decide)
  · exact Nat.le_trans hO.s.2 (by decide)
  · exact Nat.le_trans hO.b.2 (by decide)
  · exact Nat.le_trans hO.p.2 (by decide)
theorem zS.lt {s : Nat} (h : zS s) : 1 ≤ s ∧ s ≤ 6 := by unfold zS at h; omega
/-- objects that B names change, as memory and numbers say alike -/
theorem zPR.chg {T : Nat → zT → Prop} {μ' : zM} {P' : zP} {B : Nat → Nat → Prop} (h : zPR G μ p o P A c) (hO : tOk P) (hk : zKp T μ μ') (hT : ∀ b u, T b u → ∃ s i, zS s ∧ i < 400 ∧ B s i ∧ (u = obT s i o ∨ u = oaT s i o)) (h0 : ∀ j, P' 0 0 j = P 0 0 j) (hB : ∀ s i, zS s → i < pcn P (6 + s) → B s i → zO G μ' o P' (A s i) s i) (hN : ∀ s i, zS s → i < pcn P (6 + s) → ¬ B s i → zSm P P' s i) : zPR G μ' p o P' A c := by
  obtain ⟨h1, ⟨f, h2, h3⟩, h4⟩ := h
  have lo : ∀ b n, n < 30000 → ¬ T b (n, o) := by
    rintro b n hn q
    obtain ⟨s, i, -, -, -, q | q⟩ := hT _ _ q
    · have e : n = 30000 + 1000 * s + 2 * i := congrArg Prod.fst q
      omega
    · have e : n = 30001 + 1000 * s + 2 * i := congrArg Prod.fst q
      omega
  have lo0 : ∀ b, ¬ T b (0, 0) := by
    rintro b q
    obtain ⟨s, i, -, -, -, q | q⟩ := hT _ _ q
    · have e : 0 = 30000 + 1000 * s + 2 * i := congrArg Prod.fst q
      omega
    · have e : 0 = 30001 + 1000 * s + 2 * i := congrArg Prod.fst q
      omega
  have ec : ∀ j, pcn P' j = pcn P j := fun j => by unfold pcn; rw [h0 j]
  refine ⟨?_, ⟨f, hk _ _ _ h2 (lo _ _ (by omega)), fun j hj => (h3 j hj).trans (h0 j).symm⟩, fun s hs => ?_⟩
  · show μ' p = some (pgT 0 o, .inr (1, [.ref (A 0 0), .ref (A 7 1), .ref (A 7 2), .ref (A 7 3), .ref (A 7 4), .ref (A 7 6), .ref (A 0 1), .ref (A 0 2), .int (P' 0 0 11), .int (P' 0 0 6), .int (c 0)]))
    rw [h0 11, h0 6]
    exact hk _ _ _ h1 (lo _ _ (by omega))
  · obtain ⟨g1, g2⟩ := h4 s hs
    have sl := hs.lt
    rw [ec]
    refine ⟨g1.kp hk (fun b => lo _ _ (by omega)) (fun b => lo _ _ (by omega)), fun i hi => ?_⟩
    by_cases hb : B s i
    · exact hB s i hs hi hb
    · have hib := hO.pb hs
      refine (g2 i hi).kp hs hk lo0 (fun b q => ?_) (fun b q => ?_) (hN s i hs hi hb)
      · obtain ⟨s', i', hs', hi', hb', q | q⟩ := hT _ _ q
        · have e : 30000 + 1000 * s + 2 * i = 30000 + 1000 * s' + 2 * i' := congrArg Prod.fst q
          have es : s = s' := by omega
          have ei : i = i' := by omega
          exact hb (es ▸ ei ▸ hb')
        · have e : 30000 + 1000 * s + 2 * i = 30001 + 1000 * s' + 2 * i' := congrArg Prod.fst q
          omega
      · obtain ⟨s', i', hs', hi', hb', q | q⟩ := hT _ _ q
        · have e : 30001 + 1000 * s + 2 * i = 30000 + 1000 * s' + 2 * i' := congrArg Prod.fst q
          omega
        · have e : 30001 + 1000 * s + 2 * i = 30001 + 1000 * s' + 2 * i' := congrArg Prod.fst q
          have es : s = s' := by omega
          have ei : i = i' := by omega
          exact hb (es ▸ ei ▸ hb')
/-- one object changes -/
theorem zPR.one {μ' : zM} {P' : zP} {s0 i0 : Nat} (h : zPR G μ p o P A c) (hO : tOk P) (hs : zS s0) (hi : i0 < pcn P (6 + s0)) (hk : zKp (fun _ u => u = obT s0 i0 o ∨ u = oaT s0 i0 o) μ μ') (h0 : ∀ j, P' 0 0 j = P 0 0 j) (hB : zO G μ' o P' (A s0 i0) s0 i0) (hN : ∀ s i, zS s → i < pcn P (6 + s) → ¬ (s = s0 ∧ i = i0) → zSm P P' s i) : zPR G μ' p o P' A c :=
  h.chg (B := fun s i => s = s0 ∧ i = i0) hO hk (fun b u q => ⟨s0, i0, hs, Nat.lt_of_lt_of_le hi (Nat.le_trans (hO.pb hs) (by decide)), ⟨rfl, rfl⟩, q⟩) h0 (fun s i _ _ q => by obtain ⟨rfl, rfl⟩ := q; exact hB) hN
/-- what is free hangs on the bookings alone -/
theorem tFreeInF_congr {P' : zP} {x : Int32} {r : Nat} : ∀ n, (∀ b, b < n → P' 4 b 0 = P 4 b 0 ∧ P' 4 b (8 + r) = P 4 b (8 + r)) → tFreeInF P' x r n = tFreeInF P x r n
  | 0, _ => rfl
  | n + 1, h => by
    unfold tFreeInF
    rw [tFreeInF_congr n (fun b hb => h b (by omega)), (h n (by omega)).1, (h n (by omega)).2]
theorem zSm.of {P' : zP} {s i : Nat} (h1 : ∀ j, j < 16 → P' s i j = P s i j) (h0 : P' 0 0 10 = P 0 0 10) (h2 : ∀ b j, P' 4 b j = P 4 b j) : zSm P P' s i := by
  refine ⟨h1, fun _ j hj => ?_⟩
  have e : pcn P' 10 = pcn P 10 := by unfold pcn; rw [h0]
  unfold tFreeIn
  rw [e]
  exact tFreeInF_congr _ (fun b _ => ⟨h2 b 0, h2 b (8 + j)⟩)
/-- one number of an object (no booking's rows) changes -/
theorem zPR.set {μ' : zM} {s0 i0 j0 : Nat} {v : Int32} (h : zPR G μ p o P A c) (hO : tOk P) (hs : zS s0) (hs4 : s0 ≠ 4) (hi : i0 < pcn P (6 + s0)) (hk : zKp (fun _ u => u = obT s0 i0 o ∨ u = oaT s0 i0 o) μ μ') (hB : zO G μ' o (updP P s0 i0 j0 v) (A s0 i0) s0 i0) : zPR G μ' p o (updP P s0 i0 j0 v) A c := by
  have sl := hs.lt
  refine h.one hO hs hi hk (fun j => updP_ne (by omega)) hB (fun s i _ _ n => zSm.of (fun j _ => updP_ne (by omega)) (updP_ne (by omega)) (fun b j => updP_ne (by omega)))
/-- nothing old changes -/
abbrev zF : Nat → zT → Prop := fun _ _ => False
theorem zKp.it {μ μ2 : zM} {it : Nat} {x : zT × va_E} {T : Nat → zT → Prop} (h : zKp T μ μ2) (hn : μ it = none) : zKp T μ (updM μ2 it x) := fun a t e ha n => (updM_ne (fun q => by rw [q, hn] at ha; cases ha)).trans (h a t e ha n)
theorem zF.pr {μ' : zM} (h : zPR G μ p o P A c) (hk : zKp zF μ μ') : zPR G μ' p o P A c := h.kp hk (fun _ _ _ q => q)
theorem zTI_ls {s : Nat} : zTI ≠ lsT s o := fun e => by have e1 : 0 = 20010 + 2 * s := congrArg Prod.fst e; omega
theorem zTI_la {s : Nat} : zTI ≠ laT s o := fun e => by have e1 : 0 = 20011 + 2 * s := congrArg Prod.fst e; omega
theorem zPR.sh (h : zPR G μ p o P A c) {i : Nat} (hi : i < pcn P 9) : zOSh G μ o P (A 3 i) i := (h.2.2 3 (Or.inr (Or.inr (Or.inl rfl)))).2 i hi
theorem zPR.bk (h : zPR G μ p o P A c) {i : Nat} (hi : i < pcn P 10) : zOBk G μ o P (A 4 i) i := (h.2.2 4 (Or.inr (Or.inr (Or.inr (Or.inl rfl))))).2 i hi
theorem zPR.pr (h : zPR G μ p o P A c) {i : Nat} (hi : i < pcn P 12) : zOPr G μ o P (A 6 i) i := (h.2.2 6 (Or.inr (Or.inr (Or.inr (Or.inr rfl))))).2 i hi
theorem zPR.ki (h : zPR G μ p o P A c) {i : Nat} (hi : i < pcn P 7) : μ (A 1 i) = some (obT 1 i o, oKind (P 1 i 0) (P 1 i 1) (P 1 i 2)) := (h.2.2 1 (Or.inl rfl)).2 i hi
theorem zPR.la (h : zPR G μ p o P A c) {i : Nat} (hi : i < pcn P 8) : μ (A 2 i) = some (obT 2 i o, oLamp (P 2 i 0) (P 2 i 1) (P 2 i 2)) := (h.2.2 2 (Or.inr (Or.inl rfl))).2 i hi
theorem zPR.lsh (h : zPR G μ p o P A c) : zAL G μ (lsT 3 o) (laT 3 o) (A 7 3) (c 3) (pcn P 9) (A 3) := (h.2.2 3 (Or.inr (Or.inr (Or.inl rfl)))).1
theorem zPR.lbk (h : zPR G μ p o P A c) : zAL G μ (lsT 4 o) (laT 4 o) (A 7 4) (c 4) (pcn P 10) (A 4) := (h.2.2 4 (Or.inr (Or.inr (Or.inr (Or.inl rfl))))).1
theorem zPR.lpr (h : zPR G μ p o P A c) : zAL G μ (lsT 6 o) (laT 6 o) (A 7 6) (c 6) (pcn P 12) (A 6) := (h.2.2 6 (Or.inr (Or.inr (Or.inr (Or.inr rfl))))).1
theorem zPR.lki (h : zPR G μ p o P A c) : zAL G μ (lsT 1 o) (laT 1 o) (A 7 1) (c 1) (pcn P 7) (A 1) := (h.2.2 1 (Or.inl rfl)).1
theorem zPR.lla (h : zPR G μ p o P A c) : zAL G μ (lsT 2 o) (laT 2 o) (A 7 2) (c 2) (pcn P 8) (A 2) := (h.2.2 2 (Or.inr (Or.inl rfl))).1
theorem zHn {k n : Nat} (h : k < n) (hn : n < 2 ^ 31) : ¬ zB (¬ nI k = nI n) = 0 := fun e => absurd ((zB_t (p := ¬ nI k = nI n) (fun q => absurd ((nI_eq (by omega) hn).mp q) (by omega))).symm.trans e) (by decide)
theorem zAL.cell {t ta : zT} {a n : Nat} {mc : Int32} {f : Nat → Nat} (h : zAL G μ t ta a mc n f) : ∃ ed, μ a = some (t, oAL mc ed n) := by
  obtain ⟨ed, h1, -⟩ := h
  exact ⟨ed, h1⟩
/-- an answer; nothing old changes -/
def zAns (x : Int32) (μ : zM) : Option Value → zM → Prop := fun v μ' => v = some (.int x) ∧ zKp zF μ μ'
end ZPG
