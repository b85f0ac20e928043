/-! TREE NODES in the memory; rotations -/
set_option maxRecDepth 100000
abbrev hmT (R o : Nat) : zT := (R, o)
abbrev hbT (R o : Nat) : zT := (R + 1, o)
abbrev hnT (R o h : Nat) : zT := (R + 2 + h, o)
theorem hnT_nz {R o h : Nat} : hnT R o h ≠ zC := fun e => by have := congrArg Prod.fst e; simp at this
theorem hnT_in {R o h k : Nat} (e : hnT R o h = hnT R o k) : h = k := by have := congrArg Prod.fst e; simp at this; exact this
theorem zrf_s (x : Nat) : va_rf (some x) = .ref x := rfl
theorem zrf_n : va_rf none = .null := rfl
abbrev oNd (h k b : Nat) (nx : Option Nat) : va_E := .inr (13, [.int (nI h), .ref k, .ref b, va_rf nx])
abbrev oTn (h k b : Nat) (nx pa le ri pv : Option Nat) (rd : Int32) : va_E := .inr (15, [.null, .null, .int (nI h), .ref k, .ref b, va_rf nx, va_rf pa, va_rf le, va_rf ri, va_rf pv, .int rd])
/-- the nodes of B are tree nodes -/
def zTn (μ : zM) (R o : Nat) (ν ky vl : Nat → Nat) (nx pa le ri pv : Nat → Option Nat) (rd : Nat → Int32) (B : Nat → Prop) : Prop := ∀ h, B h → h < 8192 ∧ μ (ν h) = some (hnT R o h, oTn h (ky h) (vl h) ((nx h).map ν) ((pa h).map ν) ((le h).map ν) ((ri h).map ν) ((pv h).map ν) (rd h))
abbrev zNt (R o : Nat) (B : Nat → Prop) : Nat → zT → Prop := fun _ u => ∃ h, B h ∧ u = hnT R o h
section ZTN
variable {μ μ' : zM} {R o : Nat} {ν ky vl : Nat → Nat} {nx pa le ri pv : Nat → Option Nat} {rd : Nat → Int32} {B : Nat → Prop}
theorem zTn.ne (h : zTn μ R o ν ky vl nx pa le ri pv rd B) {x y : Nat} (hx : B x) (hy : B y) (e : x ≠ y) : ν x ≠ ν y := by
  intro q
  have h1 := (h x hx).2
  rw [q, (h y hy).2] at h1
  exact e (hnT_in (congrArg Prod.fst (Option.some.inj h1))).symm
theorem zTn.inj (h : zTn μ R o ν ky vl nx pa le ri pv rd B) {x y : Nat} (hx : B x) (hy : B y) : ν x = ν y ↔ x = y := ⟨fun q => Decidable.byContradiction (fun e => h.ne hx hy e q), fun q => q ▸ rfl⟩
theorem zTn.injO (h : zTn μ R o ν ky vl nx pa le ri pv rd B) {r : Option Nat} {y : Nat} (hr : ∀ x, r = some x → B x) (hy : B y) : r.map ν = some (ν y) ↔ r = some y := by
  cases r with
  | none => exact ⟨fun q => (by cases q), fun q => (by cases q)⟩
  | some x => exact ⟨fun q => congrArg some ((h.inj (hr x rfl) hy).mp (Option.some.inj q)), fun q => (by cases q; rfl)⟩
theorem zTn.mono (h : zTn μ R o ν ky vl nx pa le ri pv rd B) {B' : Nat → Prop} (hB : ∀ x, B' x → B x) : zTn μ R o ν ky vl nx pa le ri pv rd B' := fun x hx => h x (hB x hx)
theorem zTn.kp (h : zTn μ R o ν ky vl nx pa le ri pv rd B) {T : Nat → zT → Prop} (hk : zKp T μ μ') (hT : ∀ x c, B x → ¬ T c (hnT R o x)) : zTn μ' R o ν ky vl nx pa le ri pv rd B := fun x hx => ⟨(h x hx).1, hk _ _ _ (h x hx).2 (hT x _ hx)⟩
theorem zTn.p_nx (h : zTn μ R o ν ky vl nx pa le ri pv rd B) {x : Nat} (hx : B x) (v : Option Nat) (hμ : μ' = updM μ (ν x) (hnT R o x, oTn x (ky x) (vl x) (v.map ν) ((pa x).map ν) ((le x).map ν) ((ri x).map ν) ((pv x).map ν) (rd x))) : zTn μ' R o ν ky vl (va_up nx x v) pa le ri pv rd B ∧ zKp (zNt R o B) μ μ' := by
  refine ⟨fun k hk => ⟨(h k hk).1, ?_⟩, hμ ▸ zKp.put (h x hx).2 ⟨x, hx, rfl⟩⟩
  by_cases e : k = x
  · subst e; rw [hμ, updM_eq, va_up_self]
  · rw [hμ, updM_ne (h.ne hk hx e), va_up_ne _ _ e]; exact (h k hk).2
theorem zTn.p_pa (h : zTn μ R o ν ky vl nx pa le ri pv rd B) {x : Nat} (hx : B x) (v : Option Nat) (hμ : μ' = updM μ (ν x) (hnT R o x, oTn x (ky x) (vl x) ((nx x).map ν) (v.map ν) ((le x).map ν) ((ri x).map ν) ((pv x).map ν) (rd x))) : zTn μ' R o ν ky vl nx (va_up pa x v) le ri pv rd B ∧ zKp (zNt R o B) μ μ' := by
  refine ⟨fun k hk => ⟨(h k hk).1, ?_⟩, hμ ▸ zKp.put (h x hx).2 ⟨x, hx, rfl⟩⟩
  by_cases e : k = x
  · subst e; rw [hμ, updM_eq, va_up_self]
  · rw [hμ, updM_ne (h.ne hk hx e), va_up_ne _ _ e]; exact (h k hk).2
theorem zTn.p_le (h : zTn μ R o ν ky vl nx pa le ri pv rd B) {x : Nat} (hx : B x) (v : Option Nat) (hμ : μ' = updM μ (ν x) (hnT R o x, oTn x (ky x) (vl x) ((nx x).map ν) ((pa x).map ν) (v.map ν) ((ri x).map ν) ((pv x).map ν) (rd x))) : zTn μ' R o ν ky vl nx pa (va_up le x v) ri pv rd B ∧ zKp (zNt R o B) μ μ' := by
  refine ⟨fun k hk => ⟨(h k hk).1, ?_⟩, hμ ▸ zKp.put (h x hx).2 ⟨x, hx, rfl⟩⟩
  by_cases e : k = x
  · subst e; rw [hμ, updM_eq, va_up_self]
  · rw [hμ, updM_ne (h.ne hk hx e), va_up_ne _ _ e]; exact (h k hk).2
theorem zTn.p_ri (h : zTn μ R o ν ky vl nx pa le ri pv rd B) {x : Nat} (hx : B x) (v : Option Nat) (hμ : μ' = updM μ (ν x) (hnT R o x, oTn x (ky x) (vl x) ((nx x).map ν) ((pa x).map ν) ((le x).map ν) (v.map ν) ((pv x).map ν) (rd x))) : zTn μ' R o ν ky vl nx pa le (va_up ri x v) pv rd B ∧ zKp (zNt R o B) μ μ' := by
  refine ⟨fun k hk => ⟨(h k hk).1, ?_⟩, hμ ▸ zKp.put (h x hx).2 ⟨x, hx, rfl⟩⟩
  by_cases e : k = x
  · subst e; rw [hμ, updM_eq, va_up_self]
  · rw [hμ, updM_ne (h.ne hk hx e), va_up_ne _ _ e]; exact (h k hk).2
theorem zTn.p_pv (h : zTn μ R o ν ky vl nx pa le ri pv rd B) {x : Nat} (hx : B x) (v : Option Nat) (hμ : μ' = updM μ (ν x) (hnT R o x, oTn x (ky x) (vl x) ((nx x).map ν) ((pa x).map ν) ((le x).map ν) ((ri x).map ν) (v.map ν) (rd x))) : zTn μ' R o ν ky vl nx pa le ri (va_up pv x v) rd B ∧ zKp (zNt R o B) μ μ' := by
  refine ⟨fun k hk => ⟨(h k hk).1, ?_⟩, hμ ▸ zKp.put (h x hx).2 ⟨x, hx, rfl⟩⟩
  by_cases e : k = x
  · subst e; rw [hμ, updM_eq, va_up_self]
  · rw [hμ, updM_ne (h.ne hk hx e), va_up_ne _ _ e]; exact (h k hk).2
theorem zTn.p_rd (h : zTn μ R o ν ky vl nx pa le ri pv rd B) {x : Nat} (hx : B x) (v : Int32) (hμ : μ' = updM μ (ν x) (hnT R o x, oTn x (ky x) (vl x) ((nx x).map ν) ((pa x).map ν) ((le x).map ν) ((ri x).map ν) ((pv x).map ν) v)) : zTn μ' R o ν ky vl nx pa le ri pv (upd rd x v) B ∧ zKp (zNt R o B) μ μ' := by
  refine ⟨fun k hk => ⟨(h k hk).1, ?_⟩, hμ ▸ zKp.put (h x hx).2 ⟨x, hx, rfl⟩⟩
  by_cases e : k = x
  · subst e; rw [hμ, updM_eq, pk_us]
  · rw [hμ, updM_ne (h.ne hk hx e), pk_un e]; exact (h k hk).2
end ZTN
section ZRT
variable {pa le ri : Nat → Option Nat} {p r : Nat}
theorem zRpa_0 (h : le r = none) : va_up (va_up pa r (pa p)) p (some r) = zRpa pa le p r := by
  funext x
  unfold zRpa
  by_cases e1 : x = p
  · subst e1; rw [va_up_self, if_pos rfl]
  · rw [va_up_ne _ _ e1, if_neg e1]
    by_cases e2 : x = r
    · subst e2; rw [va_up_self, if_pos rfl]
    · rw [va_up_ne _ _ e2, if_neg e2, if_neg (fun q => by rw [h] at q; cases q)]
theorem zRpa_1 {c : Nat} (h : le r = some c) : va_up (va_up (va_up pa c (some p)) r (pa p)) p (some r) = zRpa pa le p r := by
  funext x
  unfold zRpa
  by_cases e1 : x = p
  · subst e1; rw [va_up_self, if_pos rfl]
  · rw [va_up_ne _ _ e1, if_neg e1]
    by_cases e2 : x = r
    · subst e2; rw [va_up_self, if_pos rfl]
    · rw [va_up_ne _ _ e2, if_neg e2]
      by_cases e3 : x = c
      · subst e3; rw [va_up_self, if_pos h]
      · rw [va_up_ne _ _ e3, if_neg (fun q => e3 (Option.some.inj (q.symm.trans h)))]
theorem zRle_0 (h : ∀ x, ¬ (pa p = some x ∧ le x = some p)) : va_up le r (some p) = zRle pa le p r := by
  funext x
  unfold zRle
  by_cases e1 : x = r
  · subst e1; rw [va_up_self, if_pos rfl]
  · rw [va_up_ne _ _ e1, if_neg e1, if_neg (h x)]
theorem zRle_1 {q : Nat} (h : pa p = some q) (hl : le q = some p) : va_up (va_up le q (some r)) r (some p) = zRle pa le p r := by
  funext x
  unfold zRle
  by_cases e1 : x = r
  · subst e1; rw [va_up_self, if_pos rfl]
  · rw [va_up_ne _ _ e1, if_neg e1]
    by_cases e2 : x = q
    · subst e2; rw [va_up_self, if_pos ⟨h, hl⟩]
    · rw [va_up_ne _ _ e2, if_neg (fun z => e2 (Option.some.inj (z.1.symm.trans h)))]
theorem zRri_0 (h : ∀ x, ¬ (pa p = some x ∧ ¬ le x = some p)) : va_up ri p (le r) = zRri pa le ri p r := by
  funext x
  unfold zRri
  by_cases e1 : x = p
  · subst e1; rw [va_up_self, if_pos rfl]
  · rw [va_up_ne _ _ e1, if_neg e1, if_neg (h x)]
theorem zRri_1 {q : Nat} (h : pa p = some q) (hl : ¬ le q = some p) (hqp : q ≠ p) : va_up (va_up ri p (le r)) q (some r) = zRri pa le ri p r := by
  funext x
  unfold zRri
  by_cases e1 : x = p
  · subst e1; rw [va_up_ne _ _ (Ne.symm hqp), va_up_self, if_pos rfl]
  · rw [if_neg e1]
    by_cases e2 : x = q
    · subst e2; rw [va_up_self, if_pos ⟨h, hl⟩]
    · rw [va_up_ne _ _ e2, va_up_ne _ _ e1, if_neg (fun z => e2 (Option.some.inj (z.1.symm.trans h)))]
end ZRT
section ZRW
variable {G : zG} {μ : zM} {R o : Nat} {ν ky vl : Nat → Nat} {nx pa le ri pv : Nat → Option Nat} {rd : Nat → Int32} {B T : Nat → Prop} {κ : Nat → Int} {a b : Nat → Int}
theorem C_rotateLeft {p r rt : Nat} (hT : zTn μ R o ν ky vl nx pa le ri pv rd B) (hTr : zTree T κ pa le ri a b) (hTB : ∀ x, T x → B x) (hp : T p) (hr : ri p = some r) : Meets G 1 MJ23_rotateLeft [.ref (ν rt), .ref (ν p)] μ (fun v μ' => v = some (.ref (ν (if pa p = none then r else rt))) ∧ zTn μ' R o ν ky vl nx (zRpa pa le p r) (zRle pa le p r) (zRri pa le ri p r) pv (if pa p = none then upd rd r 0 else rd) B ∧ zKp (zNt R o B) μ μ') 0 0 := by
  obtain ⟨p1, p2, p3, p4, p5, p6, p7⟩ := hTr p hp
  have hBp := hTB p hp
  obtain ⟨hrT, hrp, hra, hrb⟩ := p4 r hr
  obtain ⟨r1, r2, r3, r4, r5, r6, r7⟩ := hTr r hrT
  have hcs : ∀ c, le r = some c → T c ∧ a c = a r ∧ b c = κ r := fun c hc => ⟨(r2 c hc).1, (r2 c hc).2.2⟩
  have hBr := hTB r hrT
  have hpr : p ≠ r := fun e => by rw [← e] at hra hrb; omega
  have hqs : ∀ q, pa p = some q → B q ∧ T q ∧ q ≠ p ∧ q ≠ r := by
    intro q hq
    obtain ⟨hTq, q7⟩ := p7 q hq
    obtain ⟨q1, q2, q3, q4, q5, -, -⟩ := hTr q hTq
    refine ⟨hTB q hTq, hTq, fun e => ?_, fun e => ?_⟩
    · subst e
      rcases q7 with g | g
      · have := (q2 _ g).2.2; omega
      · have := (q4 _ g).2.2; omega
    · subst e
      rcases q7 with g | g
      · have := (q2 _ g).2.2; omega
      · have := (q4 _ g).2.2; omega
  have s79 : ∀ (μ3 : zM) (pac leq riq : Nat → Option Nat) (rd' : Nat → Int32) (rt' : Nat), zTn μ3 R o ν ky vl nx (va_up pac r (pa p)) leq riq pv rd' B → va_up (va_up pac r (pa p)) p (some r) = zRpa pa le p r → va_up leq r (some p) = zRle pa le p r → riq = zRri pa le ri p r → rd' = (if pa p = none then upd rd r 0 else rd) → rt' = (if pa p = none then r else rt) → zKp (zNt R o B) μ μ3 → AW G 1 MJ23_rotateLeft (fun v μ' => v = some (.ref (ν (if pa p = none then r else rt))) ∧ zTn μ' R o ν ky vl nx (zRpa pa le p r) (zRle pa le p r) (zRri pa le ri p r) pv (if pa p = none then upd rd r 0 else rd) B ∧ zKp (zNt R o B) μ μ') 0 0 79 [(0, .ref (ν rt')), (1, .ref (ν p)), (2, .ref (ν r))] [] μ3 := by
    intro μ3 pac leq riq rd' rt' hT e1 e2 e3 e4 e5 hk
    have hr3 := (hT r hBr).2
    first | refine aw_aload_n (i := 2) (q := 80) dJ23_rotateLeft_79 rfl rfl rfl ?_ | refine aw_aloadN_n (i := 2) (q := 80) dJ23_rotateLeft_79 rfl rfl rfl ?_ | refine aw_aloadQ_n (i := 2) (q := 80) dJ23_rotateLeft_79 rfl rfl rfl ?_
    first | refine aw_aload_n (i := 1) (q := 81) dJ23_rotateLeft_80 rfl rfl rfl ?_ | refine aw_aloadN_n (i := 1) (q := 81) dJ23_rotateLeft_80 rfl rfl rfl ?_ | refine aw_aloadQ_n (i := 1) (q := 81) dJ23_rotateLeft_80 rfl rfl rfl ?_
    refine aw_putfield (q := 84) dJ23_rotateLeft_81 gf_J23_39_15 hr3 (by first | assumption | simp) (by first | rfl | exact znar_rf _ _ | exact zB_nar _) (by first | rfl | exact zfit_rf _ _ | exact zB_fit _) (Nat.le_of_ble_eq_true rfl) rfl (fun μ4 hg_μ4 => ?_)
    have hr3 : μ4 _ = some _ := hg_μ4 ▸ updM_eq _ _ _
    simp only [List.set] at hr3 hg_μ4
    obtain ⟨hT4, hk4⟩ := hT.p_le hBr (some p) hg_μ4
    have hp4 := (hT4 p hBp).2
    first | refine aw_aload_n (i := 1) (q := 85) dJ23_rotateLeft_84 rfl rfl rfl ?_ | refine aw_aloadN_n (i := 1) (q := 85) dJ23_rotateLeft_84 rfl rfl rfl ?_ | refine aw_aloadQ_n (i := 1) (q := 85) dJ23_rotateLeft_84 rfl rfl rfl ?_
    first | refine aw_aload_n (i := 2) (q := 86) dJ23_rotateLeft_85 rfl rfl rfl ?_ | refine aw_aloadN_n (i := 2) (q := 86) dJ23_rotateLeft_85 rfl rfl rfl ?_ | refine aw_aloadQ_n (i := 2) (q := 86) dJ23_rotateLeft_85 rfl rfl rfl ?_
    refine aw_putfield (q := 89) dJ23_rotateLeft_86 gf_J23_9_15 hp4 (by first | assumption | simp) (by first | rfl | exact znar_rf _ _ | exact zB_nar _) (by first | rfl | exact zfit_rf _ _ | exact zB_fit _) (Nat.le_of_ble_eq_true rfl) rfl (fun μ5 hg_μ5 => ?_)
    have hp4 : μ5 _ = some _ := hg_μ5 ▸ updM_eq _ _ _
    simp only [List.set] at hp4 hg_μ5
    obtain ⟨hT5, hk5⟩ := hT4.p_pa hBp (some r) hg_μ5
    rw [e1, e2, e3, e4] at hT5
    first | refine aw_aload_n (i := 0) (q := 90) dJ23_rotateLeft_89 rfl rfl rfl ?_ | refine aw_aloadN_n (i := 0) (q := 90) dJ23_rotateLeft_89 rfl rfl rfl ?_ | refine aw_aloadQ_n (i := 0) (q := 90) dJ23_rotateLeft_89 rfl rfl rfl ?_
    exact aw_areturnR dJ23_rotateLeft_90 rfl (by first | exact Or.inl ⟨_, rfl⟩ | exact Or.inr ⟨_, rfl⟩) (by rw [e5]; exact ⟨rfl, hT5, (hk.tr hk4).tr hk5⟩)
  have s34 : ∀ (μ2 : zM) (pac : Nat → Option Nat), zTn μ2 R o ν ky vl nx pac le (va_up ri p (le r)) pv rd B → pac p = pa p → va_up (va_up pac r (pa p)) p (some r) = zRpa pa le p r → zKp (zNt R o B) μ μ2 → AW G 1 MJ23_rotateLeft (fun v μ' => v = some (.ref (ν (if pa p = none then r else rt))) ∧ zTn μ' R o ν ky vl nx (zRpa pa le p r) (zRle pa le p r) (zRri pa le ri p r) pv (if pa p = none then upd rd r 0 else rd) B ∧ zKp (zNt R o B) μ μ') 0 0 34 [(0, .ref (ν rt)), (1, .ref (ν p)), (2, .ref (ν r))] [] μ2 := by
    intro μ2 pac hT e0 e1 hk
    have hr2 := (hT r hBr).2
    have hp2 := (hT p hBp).2
    rw [e0] at hp2
    obtain ⟨o, hq⟩ : ∃ o, pa p = o := ⟨_, rfl⟩
    rw [hq] at hp2
    cases o with
    | none =>
      simp only [Option.map_none, zrf_n] at hp2
      first | refine aw_aload_n (i := 2) (q := 35) dJ23_rotateLeft_34 rfl rfl rfl ?_ | refine aw_aloadN_n (i := 2) (q := 35) dJ23_rotateLeft_34 rfl rfl rfl ?_ | refine aw_aloadQ_n (i := 2) (q := 35) dJ23_rotateLeft_34 rfl rfl rfl ?_
      first | refine aw_aload_n (i := 1) (q := 36) dJ23_rotateLeft_35 rfl rfl rfl ?_ | refine aw_aloadN_n (i := 1) (q := 36) dJ23_rotateLeft_35 rfl rfl rfl ?_ | refine aw_aloadQ_n (i := 1) (q := 36) dJ23_rotateLeft_35 rfl rfl rfl ?_
      refine aw_getfield (q := 39) dJ23_rotateLeft_36 gf_J23_9_15 (by assumption) rfl rfl ?_
      refine aw_dup_x1 (q := 40) dJ23_rotateLeft_39 (by first | rfl | exact zcat_rf _) (by first | rfl | exact zcat_rf _) rfl ?_
      refine aw_putfield (q := 43) dJ23_rotateLeft_40 gf_J23_9_15 hr2 (by first | assumption | simp) (by first | rfl | exact znar_rf _ _ | exact zB_nar _) (by first | rfl | exact zfit_rf _ _ | exact zB_fit _) (Nat.le_of_ble_eq_true rfl) rfl (fun μ3 hg_μ3 => ?_)
      have hr2 : μ3 _ = some _ := hg_μ3 ▸ updM_eq _ _ _
      simp only [List.set] at hr2 hg_μ3
      obtain ⟨hT3, hk3⟩ := hT.p_pa hBr none hg_μ3
      refine aw_dup (q := 44) dJ23_rotateLeft_43 (by first | rfl | exact zcat_rf _) rfl ?_
      first | refine aw_astore_n (i := 3) (q := 45) dJ23_rotateLeft_44 rfl (by decide) rfl ?_ | refine aw_astoreN_n (i := 3) (q := 45) dJ23_rotateLeft_44 rfl (by decide) rfl ?_ | refine aw_astoreQ_n (i := 3) (q := 45) dJ23_rotateLeft_44 rfl (by decide) rfl ?_
      refine aw_ifnonnull_n (q := 48) dJ23_rotateLeft_45 rfl ?_
      have hr3 := (hT3 r hBr).2
      first | refine aw_aload_n (i := 2) (q := 49) dJ23_rotateLeft_48 rfl rfl rfl ?_ | refine aw_aloadN_n (i := 2) (q := 49) dJ23_rotateLeft_48 rfl rfl rfl ?_ | refine aw_aloadQ_n (i := 2) (q := 49) dJ23_rotateLeft_48 rfl rfl rfl ?_
      refine aw_dup (q := 50) dJ23_rotateLeft_49 (by first | rfl | exact zcat_rf _) rfl ?_
      first | refine aw_astore_n (i := 0) (q := 51) dJ23_rotateLeft_50 rfl (by decide) rfl ?_ | refine aw_astoreN_n (i := 0) (q := 51) dJ23_rotateLeft_50 rfl (by decide) rfl ?_ | refine aw_astoreQ_n (i := 0) (q := 51) dJ23_rotateLeft_50 rfl (by decide) rfl ?_
      refine aw_iconst (v := 0) (q := 52) dJ23_rotateLeft_51 rfl rfl ?_
      refine aw_putfield (q := 55) dJ23_rotateLeft_52 gf_J23_93_15 hr3 (by first | assumption | simp) (by first | rfl | exact znar_rf _ _ | exact zB_nar _) (by first | rfl | exact zfit_rf _ _ | exact zB_fit _) (Nat.le_of_ble_eq_true rfl) rfl (fun μ4 hg_μ4 => ?_)
      have hr3 : μ4 _ = some _ := hg_μ4 ▸ updM_eq _ _ _
      simp only [List.set] at hr3 hg_μ4
      obtain ⟨hT4, hk4⟩ := hT3.p_rd hBr 0 hg_μ4
      refine aw_goto (tgt := 79) dJ23_rotateLeft_55 (by decide) ?_
      exact AW.bud (aw_locals (by exact ⟨rfl, rfl, rfl, trivial⟩) (s79 μ4 pac le _ _ r (by rw [hq]; exact hT4) e1 (zRle_0 (fun x q => by rw [hq] at q; cases q.1)) (zRri_0 (fun x q => by rw [hq] at q; cases q.1)) (by rw [if_pos hq]) (by rw [if_pos hq]) ((hk.tr hk3).tr hk4))) (by omega) (by omega)
    | some q =>
      obtain ⟨hBq, hTq, nqp, nqr⟩ := hqs q hq
      simp only [Option.map_some, zrf_s] at hp2
      first | refine aw_aload_n (i := 2) (q := 35) dJ23_rotateLeft_34 rfl rfl rfl ?_ | refine aw_aloadN_n (i := 2) (q := 35) dJ23_rotateLeft_34 rfl rfl rfl ?_ | refine aw_aloadQ_n (i := 2) (q := 35) dJ23_rotateLeft_34 rfl rfl rfl ?_
      first | refine aw_aload_n (i := 1) (q := 36) dJ23_rotateLeft_35 rfl rfl rfl ?_ | refine aw_aloadN_n (i := 1) (q := 36) dJ23_rotateLeft_35 rfl rfl rfl ?_ | refine aw_aloadQ_n (i := 1) (q := 36) dJ23_rotateLeft_35 rfl rfl rfl ?_
      refine aw_getfield (q := 39) dJ23_rotateLeft_36 gf_J23_9_15 (by assumption) rfl rfl ?_
      refine aw_dup_x1 (q := 40) dJ23_rotateLeft_39 (by first | rfl | exact zcat_rf _) (by first | rfl | exact zcat_rf _) rfl ?_
      refine aw_putfield (q := 43) dJ23_rotateLeft_40 gf_J23_9_15 hr2 (by first | assumption | simp) (by first | rfl | exact znar_rf _ _ | exact zB_nar _) (by first | rfl | exact zfit_rf _ _ | exact zB_fit _) (Nat.le_of_ble_eq_true rfl) rfl (fun μ3 hg_μ3 => ?_)
      have hr2 : μ3 _ = some _ := hg_μ3 ▸ updM_eq _ _ _
      simp only [List.set] at hr2 hg_μ3
      obtain ⟨hT3, hk3⟩ := hT.p_pa hBr (some q) hg_μ3
      refine aw_dup (q := 44) dJ23_rotateLeft_43 (by first | rfl | exact zcat_rf _) rfl ?_
      first | refine aw_astore_n (i := 3) (q := 45) dJ23_rotateLeft_44 rfl (by decide) rfl ?_ | refine aw_astoreN_n (i := 3) (q := 45) dJ23_rotateLeft_44 rfl (by decide) rfl ?_ | refine aw_astoreQ_n (i := 3) (q := 45) dJ23_rotateLeft_44 rfl (by decide) rfl ?_
      refine aw_ifnonnull_r (tgt := 58) dJ23_rotateLeft_45 (by decide) ?_
      have hq3 := (hT3 q hBq).2
      first | refine aw_aload_n (i := 3) (q := 59) dJ23_rotateLeft_58 rfl rfl rfl ?_ | refine aw_aloadN_n (i := 3) (q := 59) dJ23_rotateLeft_58 rfl rfl rfl ?_ | refine aw_aloadQ_n (i := 3) (q := 59) dJ23_rotateLeft_58 rfl rfl rfl ?_
      refine aw_getfield (q := 62) dJ23_rotateLeft_59 gf_J23_39_15 (by assumption) rfl rfl ?_
      first | refine aw_aload_n (i := 1) (q := 63) dJ23_rotateLeft_62 rfl rfl rfl ?_ | refine aw_aloadN_n (i := 1) (q := 63) dJ23_rotateLeft_62 rfl rfl rfl ?_ | refine aw_aloadQ_n (i := 1) (q := 63) dJ23_rotateLeft_62 rfl rfl rfl ?_
      have hlb : ∀ x, le q = some x → B x := fun x hx => hTB x ((hTr q hTq).2.1 x hx).1
      by_cases hl : le q = some p
      · first | refine aw_acmpQR_ne (tgt := 74) (q := 66) dJ23_rotateLeft_63 (by decide) rfl (fun hZ => absurd (by (rw [hl]; rfl)) hZ) (fun _ => ?_)
        first | refine aw_aload_n (i := 3) (q := 67) dJ23_rotateLeft_66 rfl rfl rfl ?_ | refine aw_aloadN_n (i := 3) (q := 67) dJ23_rotateLeft_66 rfl rfl rfl ?_ | refine aw_aloadQ_n (i := 3) (q := 67) dJ23_rotateLeft_66 rfl rfl rfl ?_
        first | refine aw_aload_n (i := 2) (q := 68) dJ23_rotateLeft_67 rfl rfl rfl ?_ | refine aw_aloadN_n (i := 2) (q := 68) dJ23_rotateLeft_67 rfl rfl rfl ?_ | refine aw_aloadQ_n (i := 2) (q := 68) dJ23_rotateLeft_67 rfl rfl rfl ?_
        refine aw_putfield (q := 71) dJ23_rotateLeft_68 gf_J23_39_15 hq3 (by first | assumption | simp) (by first | rfl | exact znar_rf _ _ | exact zB_nar _) (by first | rfl | exact zfit_rf _ _ | exact zB_fit _) (Nat.le_of_ble_eq_true rfl) rfl (fun μ4 hg_μ4 => ?_)
        have hq3 : μ4 _ = some _ := hg_μ4 ▸ updM_eq _ _ _
        simp only [List.set] at hq3 hg_μ4
        obtain ⟨hT4, hk4⟩ := hT3.p_le hBq (some r) hg_μ4
        refine aw_goto (tgt := 79) dJ23_rotateLeft_71 (by decide) ?_
        exact AW.bud (aw_locals (by exact ⟨rfl, rfl, rfl, trivial⟩) (s79 μ4 pac _ _ _ rt (by rw [hq]; exact hT4) e1 (zRle_1 hq hl) (zRri_0 (fun x z => by (have := hq.symm.trans z.1; cases this; exact z.2 hl))) (by rw [if_neg (by rw [hq]; simp)]) (by rw [if_neg (by rw [hq]; simp)]) ((hk.tr hk3).tr hk4))) (by omega) (by omega)
      · skip
        first | refine aw_acmpQR_ne (tgt := 74) (q := 66) dJ23_rotateLeft_63 (by decide) rfl (fun _ => ?_) (fun hZ => absurd hZ ((fun z => hl ((hT3.injO hlb hBp).mp z))))
        first | refine aw_aload_n (i := 3) (q := 75) dJ23_rotateLeft_74 rfl rfl rfl ?_ | refine aw_aloadN_n (i := 3) (q := 75) dJ23_rotateLeft_74 rfl rfl rfl ?_ | refine aw_aloadQ_n (i := 3) (q := 75) dJ23_rotateLeft_74 rfl rfl rfl ?_
        first | refine aw_aload_n (i := 2) (q := 76) dJ23_rotateLeft_75 rfl rfl rfl ?_ | refine aw_aloadN_n (i := 2) (q := 76) dJ23_rotateLeft_75 rfl rfl rfl ?_ | refine aw_aloadQ_n (i := 2) (q := 76) dJ23_rotateLeft_75 rfl rfl rfl ?_
        refine aw_putfield (q := 79) dJ23_rotateLeft_76 gf_J23_42_15 hq3 (by first | assumption | simp) (by first | rfl | exact znar_rf _ _ | exact zB_nar _) (by first | rfl | exact zfit_rf _ _ | exact zB_fit _) (Nat.le_of_ble_eq_true rfl) rfl (fun μ4 hg_μ4 => ?_)
        have hq3 : μ4 _ = some _ := hg_μ4 ▸ updM_eq _ _ _
        simp only [List.set] at hq3 hg_μ4
        obtain ⟨hT4, hk4⟩ := hT3.p_ri hBq (some r) hg_μ4
        exact AW.bud (aw_locals (by exact ⟨rfl, rfl, rfl, trivial⟩) (s79 μ4 pac le _ _ rt (by rw [hq]; exact hT4) e1 (zRle_0 (fun x z => by (have := hq.symm.trans z.1; cases this; exact hl z.2))) (zRri_1 hq hl nqp) (by rw [if_neg (by rw [hq]; simp)]) (by rw [if_neg (by rw [hq]; simp)]) ((hk.tr hk3).tr hk4))) (by omega) (by omega)
  have hp0 := (hT p hBp).2
  have hr0 := (hT r hBr).2
  rw [hr] at hp0
  simp only [Option.map_some, zrf_s] at hp0
  refine meets_of (by decide +kernel) (Nat.le_of_ble_eq_true rfl) ?_
  first | refine aw_aload_n (i := 1) (q := 1) dJ23_rotateLeft_0 rfl rfl rfl ?_ | refine aw_aloadN_n (i := 1) (q := 1) dJ23_rotateLeft_0 rfl rfl rfl ?_ | refine aw_aloadQ_n (i := 1) (q := 1) dJ23_rotateLeft_0 rfl rfl rfl ?_
  refine aw_ifnull_r (q := 4) dJ23_rotateLeft_1 rfl ?_
  first | refine aw_aload_n (i := 1) (q := 5) dJ23_rotateLeft_4 rfl rfl rfl ?_ | refine aw_aloadN_n (i := 1) (q := 5) dJ23_rotateLeft_4 rfl rfl rfl ?_ | refine aw_aloadQ_n (i := 1) (q := 5) dJ23_rotateLeft_4 rfl rfl rfl ?_
  refine aw_getfield (q := 8) dJ23_rotateLeft_5 gf_J23_42_15 (by assumption) rfl rfl ?_
  refine aw_dup (q := 9) dJ23_rotateLeft_8 (by first | rfl | exact zcat_rf _) rfl ?_
  first | refine aw_astore_n (i := 2) (q := 10) dJ23_rotateLeft_9 rfl (by decide) rfl ?_ | refine aw_astoreN_n (i := 2) (q := 10) dJ23_rotateLeft_9 rfl (by decide) rfl ?_ | refine aw_astoreQ_n (i := 2) (q := 10) dJ23_rotateLeft_9 rfl (by decide) rfl ?_
  refine aw_ifnull_r (q := 13) dJ23_rotateLeft_10 rfl ?_
  first | refine aw_aload_n (i := 1) (q := 14) dJ23_rotateLeft_13 rfl rfl rfl ?_ | refine aw_aloadN_n (i := 1) (q := 14) dJ23_rotateLeft_13 rfl rfl rfl ?_ | refine aw_aloadQ_n (i := 1) (q := 14) dJ23_rotateLeft_13 rfl rfl rfl ?_
  first | refine aw_aload_n (i := 2) (q := 15) dJ23_rotateLeft_14 rfl rfl rfl ?_ | refine aw_aloadN_n (i := 2) (q := 15) dJ23_rotateLeft_14 rfl rfl rfl ?_ | refine aw_aloadQ_n (i := 2) (q := 15) dJ23_rotateLeft_14 rfl rfl rfl ?_
  refine aw_getfield (q := 18) dJ23_rotateLeft_15 gf_J23_39_15 (by assumption) rfl rfl ?_
  refine aw_dup_x1 (q := 19) dJ23_rotateLeft_18 (by first | rfl | exact zcat_rf _) (by first | rfl | exact zcat_rf _) rfl ?_
  refine aw_putfield (q := 22) dJ23_rotateLeft_19 gf_J23_42_15 hp0 (by first | assumption | simp) (by first | rfl | exact znar_rf _ _ | exact zB_nar _) (by first | rfl | exact zfit_rf _ _ | exact zB_fit _) (Nat.le_of_ble_eq_true rfl) rfl (fun μ1 hg_μ1 => ?_)
  have hp0 : μ1 _ = some _ := hg_μ1 ▸ updM_eq _ _ _
  simp only [List.set] at hp0 hg_μ1
  obtain ⟨hT1, hk1⟩ := hT.p_ri hBp (le r) hg_μ1
  refine aw_dup (q := 23) dJ23_rotateLeft_22 (by first | rfl | exact zcat_rf _) rfl ?_
  first | refine aw_astore (q := 25) dJ23_rotateLeft_23 (by decide) rfl ?_ | refine aw_astoreN (q := 25) dJ23_rotateLeft_23 (by decide) rfl ?_ | refine aw_astoreQ (q := 25) dJ23_rotateLeft_23 (by decide) rfl ?_
  cases hc : le r with
  | none =>
    simp only [Option.map_some, Option.map_none, zrf_s, zrf_n]
    refine aw_ifnull_n (tgt := 34) dJ23_rotateLeft_25 (by decide) ?_
    exact AW.bud (aw_locals (by exact ⟨rfl, rfl, rfl, trivial⟩) (s34 μ1 pa hT1 rfl (zRpa_0 hc) hk1)) (by omega) (by omega)
  | some c =>
    obtain ⟨hcT, hca, hcb⟩ := hcs c hc
    have hBc := hTB c hcT
    have ncp : c ≠ p := fun e => by subst e; omega
    simp only [Option.map_some, Option.map_none, zrf_s, zrf_n]
    refine aw_ifnull_r (q := 28) dJ23_rotateLeft_25 rfl ?_
    have hc1 := (hT1 c hBc).2
    first | refine aw_aload (q := 30) dJ23_rotateLeft_28 rfl rfl ?_ | refine aw_aloadN (q := 30) dJ23_rotateLeft_28 rfl rfl ?_ | refine aw_aloadQ (q := 30) dJ23_rotateLeft_28 rfl rfl ?_
    first | refine aw_aload_n (i := 1) (q := 31) dJ23_rotateLeft_30 rfl rfl rfl ?_ | refine aw_aloadN_n (i := 1) (q := 31) dJ23_rotateLeft_30 rfl rfl rfl ?_ | refine aw_aloadQ_n (i := 1) (q := 31) dJ23_rotateLeft_30 rfl rfl rfl ?_
    refine aw_putfield (q := 34) dJ23_rotateLeft_31 gf_J23_9_15 hc1 (by first | assumption | simp) (by first | rfl | exact znar_rf _ _ | exact zB_nar _) (by first | rfl | exact zfit_rf _ _ | exact zB_fit _) (Nat.le_of_ble_eq_true rfl) rfl (fun μ2 hg_μ2 => ?_)
    have hc1 : μ2 _ = some _ := hg_μ2 ▸ updM_eq _ _ _
    simp only [List.set] at hc1 hg_μ2
    obtain ⟨hT2, hk2⟩ := hT1.p_pa hBc (some p) hg_μ2
    exact AW.bud (aw_locals (by exact ⟨rfl, rfl, rfl, trivial⟩) (s34 μ2 _ hT2 (va_up_ne _ _ (Ne.symm ncp)) (zRpa_1 hc) (hk1.tr hk2))) (by omega) (by omega)
theorem C_rotateRight {p r rt : Nat} (hT : zTn μ R o ν ky vl nx pa le ri pv rd B) (hTr : zTree T κ pa le ri a b) (hTB : ∀ x, T x → B x) (hp : T p) (hr : le p = some r) : Meets G 1 MJ23_rotateRight [.ref (ν rt), .ref (ν p)] μ (fun v μ' => v = some (.ref (ν (if pa p = none then r else rt))) ∧ zTn μ' R o ν ky vl nx (zRpa pa ri p r) (zRri pa ri le p r) (zRle pa ri p r) pv (if pa p = none then upd rd r 0 else rd) B ∧ zKp (zNt R o B) μ μ') 0 0 := by
  obtain ⟨p1, p2, p3, p4, p5, p6, p7⟩ := hTr p hp
  have hBp := hTB p hp
  obtain ⟨hrT, hrp, hra, hrb⟩ := p2 r hr
  obtain ⟨r1, r2, r3, r4, r5, r6, r7⟩ := hTr r hrT
  have hcs : ∀ c, ri r = some c → T c ∧ a c = κ r ∧ b c = b r := fun c hc => ⟨(r4 c hc).1, (r4 c hc).2.2⟩
  have hBr := hTB r hrT
  have hpr : p ≠ r := fun e => by rw [← e] at hra hrb; omega
  have hqs : ∀ q, pa p = some q → B q ∧ T q ∧ q ≠ p ∧ q ≠ r := by
    intro q hq
    obtain ⟨hTq, q7⟩ := p7 q hq
    obtain ⟨q1, q2, q3, q4, q5, -, -⟩ := hTr q hTq
    refine ⟨hTB q hTq, hTq, fun e => ?_, fun e => ?_⟩
    · subst e
      rcases q7 with g | g
      · have := (q2 _ g).2.2; omega
      · have := (q4 _ g).2.2; omega
    · subst e
      rcases q7 with g | g
      · have := (q2 _ g).2.2; omega
      · have := (q4 _ g).2.2; omega
  have s79 : ∀ (μ3 : zM) (pac leq riq : Nat → Option Nat) (rd' : Nat → Int32) (rt' : Nat), zTn μ3 R o ν ky vl nx (va_up pac r (pa p)) riq leq pv rd' B → va_up (va_up pac r (pa p)) p (some r) = zRpa pa ri p r → va_up leq r (some p) = zRle pa ri p r → riq = zRri pa ri le p r → rd' = (if pa p = none then upd rd r 0 else rd) → rt' = (if pa p = none then r else rt) → zKp (zNt R o B) μ μ3 → AW G 1 MJ23_rotateRight (fun v μ' => v = some (.ref (ν (if pa p = none then r else rt))) ∧ zTn μ' R o ν ky vl nx (zRpa pa ri p r) (zRri pa ri le p r) (zRle pa ri p r) pv (if pa p = none then upd rd r 0 else rd) B ∧ zKp (zNt R o B) μ μ') 0 0 79 [(0, .ref (ν rt')), (1, .ref (ν p)), (2, .ref (ν r))] [] μ3 := by
    intro μ3 pac leq riq rd' rt' hT e1 e2 e3 e4 e5 hk
    have hr3 := (hT r hBr).2
    first | refine aw_aload_n (i := 2) (q := 80) dJ23_rotateRight_79 rfl rfl rfl ?_ | refine aw_aloadN_n (i := 2) (q := 80) dJ23_rotateRight_79 rfl rfl rfl ?_ | refine aw_aloadQ_n (i := 2) (q := 80) dJ23_rotateRight_79 rfl rfl rfl ?_
    first | refine aw_aload_n (i := 1) (q := 81) dJ23_rotateRight_80 rfl rfl rfl ?_ | refine aw_aloadN_n (i := 1) (q := 81) dJ23_rotateRight_80 rfl rfl rfl ?_ | refine aw_aloadQ_n (i := 1) (q := 81) dJ23_rotateRight_80 rfl rfl rfl ?_
    refine aw_putfield (q := 84) dJ23_rotateRight_81 gf_J23_42_15 hr3 (by first | assumption | simp) (by first | rfl | exact znar_rf _ _ | exact zB_nar _) (by first | rfl | exact zfit_rf _ _ | exact zB_fit _) (Nat.le_of_ble_eq_true rfl) rfl (fun μ4 hg_μ4 => ?_)
    have hr3 : μ4 _ = some _ := hg_μ4 ▸ updM_eq _ _ _
    simp only [List.set] at hr3 hg_μ4
    obtain ⟨hT4, hk4⟩ := hT.p_ri hBr (some p) hg_μ4
    have hp4 := (hT4 p hBp).2
    first | refine aw_aload_n (i := 1) (q := 85) dJ23_rotateRight_84 rfl rfl rfl ?_ | refine aw_aloadN_n (i := 1) (q := 85) dJ23_rotateRight_84 rfl rfl rfl ?_ | refine aw_aloadQ_n (i := 1) (q := 85) dJ23_rotateRight_84 rfl rfl rfl ?_
    first | refine aw_aload_n (i := 2) (q := 86) dJ23_rotateRight_85 rfl rfl rfl ?_ | refine aw_aloadN_n (i := 2) (q := 86) dJ23_rotateRight_85 rfl rfl rfl ?_ | refine aw_aloadQ_n (i := 2) (q := 86) dJ23_rotateRight_85 rfl rfl rfl ?_
    refine aw_putfield (q := 89) dJ23_rotateRight_86 gf_J23_9_15 hp4 (by first | assumption | simp) (by first | rfl | exact znar_rf _ _ | exact zB_nar _) (by first | rfl | exact zfit_rf _ _ | exact zB_fit _) (Nat.le_of_ble_eq_true rfl) rfl (fun μ5 hg_μ5 => ?_)
    have hp4 : μ5 _ = some _ := hg_μ5 ▸ updM_eq _ _ _
    simp only [List.set] at hp4 hg_μ5
    obtain ⟨hT5, hk5⟩ := hT4.p_pa hBp (some r) hg_μ5
    rw [e1, e2, e3, e4] at hT5
    first | refine aw_aload_n (i := 0) (q := 90) dJ23_rotateRight_89 rfl rfl rfl ?_ | refine aw_aloadN_n (i := 0) (q := 90) dJ23_rotateRight_89 rfl rfl rfl ?_ | refine aw_aloadQ_n (i := 0) (q := 90) dJ23_rotateRight_89 rfl rfl rfl ?_
    exact aw_areturnR dJ23_rotateRight_90 rfl (by first | exact Or.inl ⟨_, rfl⟩ | exact Or.inr ⟨_, rfl⟩) (by rw [e5]; exact ⟨rfl, hT5, (hk.tr hk4).tr hk5⟩)
  have s34 : ∀ (μ2 : zM) (pac : Nat → Option Nat), zTn μ2 R o ν ky vl nx pac (va_up le p (ri r)) ri pv rd B → pac p = pa p → va_up (va_up pac r (pa p)) p (some r) = zRpa pa ri p r → zKp (zNt R o B) μ μ2 → AW G 1 MJ23_rotateRight (fun v μ' => v = some (.ref (ν (if pa p = none then r else rt))) ∧ zTn μ' R o ν ky vl nx (zRpa pa ri p r) (zRri pa ri le p r) (zRle pa ri p r) pv (if pa p = none then upd rd r 0 else rd) B ∧ zKp (zNt R o B) μ μ') 0 0 34 [(0, .ref (ν rt)), (1, .ref (ν p)), (2, .ref (ν r))] [] μ2 := by
    intro μ2 pac hT e0 e1 hk
    have hr2 := (hT r hBr).2
    have hp2 := (hT p hBp).2
    rw [e0] at hp2
    obtain ⟨o, hq⟩ : ∃ o, pa p = o := ⟨_, rfl⟩
    rw [hq] at hp2
    cases o with
    | none =>
      simp only [Option.map_none, zrf_n] at hp2
      first | refine aw_aload_n (i := 2) (q := 35) dJ23_rotateRight_34 rfl rfl rfl ?_ | refine aw_aloadN_n (i := 2) (q := 35) dJ23_rotateRight_34 rfl rfl rfl ?_ | refine aw_aloadQ_n (i := 2) (q := 35) dJ23_rotateRight_34 rfl rfl rfl ?_
      first | refine aw_aload_n (i := 1) (q := 36) dJ23_rotateRight_35 rfl rfl rfl ?_ | refine aw_aloadN_n (i := 1) (q := 36) dJ23_rotateRight_35 rfl rfl rfl ?_ | refine aw_aloadQ_n (i := 1) (q := 36) dJ23_rotateRight_35 rfl rfl rfl ?_
      refine aw_getfield (q := 39) dJ23_rotateRight_36 gf_J23_9_15 (by assumption) rfl rfl ?_
      refine aw_dup_x1 (q := 40) dJ23_rotateRight_39 (by first | rfl | exact zcat_rf _) (by first | rfl | exact zcat_rf _) rfl ?_
      refine aw_putfield (q := 43) dJ23_rotateRight_40 gf_J23_9_15 hr2 (by first | assumption | simp) (by first | rfl | exact znar_rf _ _ | exact zB_nar _) (by first | rfl | exact zfit_rf _ _ | exact zB_fit _) (Nat.le_of_ble_eq_true rfl) rfl (fun μ3 hg_μ3 => ?_)
      have hr2 : μ3 _ = some _ := hg_μ3 ▸ updM_eq _ _ _
      simp only [List.set] at hr2 hg_μ3
      obtain ⟨hT3, hk3⟩ := hT.p_pa hBr none hg_μ3
      refine aw_dup (q := 44) dJ23_rotateRight_43 (by first | rfl | exact zcat_rf _) rfl ?_
      first | refine aw_astore_n (i := 3) (q := 45) dJ23_rotateRight_44 rfl (by decide) rfl ?_ | refine aw_astoreN_n (i := 3) (q := 45) dJ23_rotateRight_44 rfl (by decide) rfl ?_ | refine aw_astoreQ_n (i := 3) (q := 45) dJ23_rotateRight_44 rfl (by decide) rfl ?_
      refine aw_ifnonnull_n (q := 48) dJ23_rotateRight_45 rfl ?_
      have hr3 := (hT3 r hBr).2
      first | refine aw_aload_n (i := 2) (q := 49) dJ23_rotateRight_48 rfl rfl rfl ?_ | refine aw_aloadN_n (i := 2) (q := 49) dJ23_rotateRight_48 rfl rfl rfl ?_ | refine aw_aloadQ_n (i := 2) (q := 49) dJ23_rotateRight_48 rfl rfl rfl ?_
      refine aw_dup (q := 50) dJ23_rotateRight_49 (by first | rfl | exact zcat_rf _) rfl ?_
      first | refine aw_astore_n (i := 0) (q := 51) dJ23_rotateRight_50 rfl (by decide) rfl ?_ | refine aw_astoreN_n (i := 0) (q := 51) dJ23_rotateRight_50 rfl (by decide) rfl ?_ | refine aw_astoreQ_n (i := 0) (q := 51) dJ23_rotateRight_50 rfl (by decide) rfl ?_
      refine aw_iconst (v := 0) (q := 52) dJ23_rotateRight_51 rfl rfl ?_
      refine aw_putfield (q := 55) dJ23_rotateRight_52 gf_J23_93_15 hr3 (by first | assumption | simp) (by first | rfl | exact znar_rf _ _ | exact zB_nar _) (by first | rfl | exact zfit_rf _ _ | exact zB_fit _) (Nat.le_of_ble_eq_true rfl) rfl (fun μ4 hg_μ4 => ?_)
      have hr3 : μ4 _ = some _ := hg_μ4 ▸ updM_eq _ _ _
      simp only [List.set] at hr3 hg_μ4
      obtain ⟨hT4, hk4⟩ := hT3.p_rd hBr 0 hg_μ4
      refine aw_goto (tgt := 79) dJ23_rotateRight_55 (by decide) ?_
      exact AW.bud (aw_locals (by exact ⟨rfl, rfl, rfl, trivial⟩) (s79 μ4 pac ri _ _ r (by rw [hq]; exact hT4) e1 (zRle_0 (fun x q => by rw [hq] at q; cases q.1)) (zRri_0 (fun x q => by rw [hq] at q; cases q.1)) (by rw [if_pos hq]) (by rw [if_pos hq]) ((hk.tr hk3).tr hk4))) (by omega) (by omega)
    | some q =>
      obtain ⟨hBq, hTq, nqp, nqr⟩ := hqs q hq
      simp only [Option.map_some, zrf_s] at hp2
      first | refine aw_aload_n (i := 2) (q := 35) dJ23_rotateRight_34 rfl rfl rfl ?_ | refine aw_aloadN_n (i := 2) (q := 35) dJ23_rotateRight_34 rfl rfl rfl ?_ | refine aw_aloadQ_n (i := 2) (q := 35) dJ23_rotateRight_34 rfl rfl rfl ?_
      first | refine aw_aload_n (i := 1) (q := 36) dJ23_rotateRight_35 rfl rfl rfl ?_ | refine aw_aloadN_n (i := 1) (q := 36) dJ23_rotateRight_35 rfl rfl rfl ?_ | refine aw_aloadQ_n (i := 1) (q := 36) dJ23_rotateRight_35 rfl rfl rfl ?_
      refine aw_getfield (q := 39) dJ23_rotateRight_36 gf_J23_9_15 (by assumption) rfl rfl ?_
      refine aw_dup_x1 (q := 40) dJ23_rotateRight_39 (by first | rfl | exact zcat_rf _) (by first | rfl | exact zcat_rf _) rfl ?_
      refine aw_putfield (q := 43) dJ23_rotateRight_40 gf_J23_9_15 hr2 (by first | assumption | simp) (by first | rfl | exact znar_rf _ _ | exact zB_nar _) (by first | rfl | exact zfit_rf _ _ | exact zB_fit _) (Nat.le_of_ble_eq_true rfl) rfl (fun μ3 hg_μ3 => ?_)
      have hr2 : μ3 _ = some _ := hg_μ3 ▸ updM_eq _ _ _
      simp only [List.set] at hr2 hg_μ3
      obtain ⟨hT3, hk3⟩ := hT.p_pa hBr (some q) hg_μ3
      refine aw_dup (q := 44) dJ23_rotateRight_43 (by first | rfl | exact zcat_rf _) rfl ?_
      first | refine aw_astore_n (i := 3) (q := 45) dJ23_rotateRight_44 rfl (by decide) rfl ?_ | refine aw_astoreN_n (i := 3) (q := 45) dJ23_rotateRight_44 rfl (by decide) rfl ?_ | refine aw_astoreQ_n (i := 3) (q := 45) dJ23_rotateRight_44 rfl (by decide) rfl ?_
      refine aw_ifnonnull_r (tgt := 58) dJ23_rotateRight_45 (by decide) ?_
      have hq3 := (hT3 q hBq).2
      first | refine aw_aload_n (i := 3) (q := 59) dJ23_rotateRight_58 rfl rfl rfl ?_ | refine aw_aloadN_n (i := 3) (q := 59) dJ23_rotateRight_58 rfl rfl rfl ?_ | refine aw_aloadQ_n (i := 3) (q := 59) dJ23_rotateRight_58 rfl rfl rfl ?_
      refine aw_getfield (q := 62) dJ23_rotateRight_59 gf_J23_42_15 (by assumption) rfl rfl ?_
      first | refine aw_aload_n (i := 1) (q := 63) dJ23_rotateRight_62 rfl rfl rfl ?_ | refine aw_aloadN_n (i := 1) (q := 63) dJ23_rotateRight_62 rfl rfl rfl ?_ | refine aw_aloadQ_n (i := 1) (q := 63) dJ23_rotateRight_62 rfl rfl rfl ?_
      have hlb : ∀ x, ri q = some x → B x := fun x hx => hTB x ((hTr q hTq).2.2.2.1 x hx).1
      by_cases hl : ri q = some p
      · first | refine aw_acmpQR_ne (tgt := 74) (q := 66) dJ23_rotateRight_63 (by decide) rfl (fun hZ => absurd (by (rw [hl]; rfl)) hZ) (fun _ => ?_)
        first | refine aw_aload_n (i := 3) (q := 67) dJ23_rotateRight_66 rfl rfl rfl ?_ | refine aw_aloadN_n (i := 3) (q := 67) dJ23_rotateRight_66 rfl rfl rfl ?_ | refine aw_aloadQ_n (i := 3) (q := 67) dJ23_rotateRight_66 rfl rfl rfl ?_
        first | refine aw_aload_n (i := 2) (q := 68) dJ23_rotateRight_67 rfl rfl rfl ?_ | refine aw_aloadN_n (i := 2) (q := 68) dJ23_rotateRight_67 rfl rfl rfl ?_ | refine aw_aloadQ_n (i := 2) (q := 68) dJ23_rotateRight_67 rfl rfl rfl ?_
        refine aw_putfield (q := 71) dJ23_rotateRight_68 gf_J23_42_15 hq3 (by first | assumption | simp) (by first | rfl | exact znar_rf _ _ | exact zB_nar _) (by first | rfl | exact zfit_rf _ _ | exact zB_fit _) (Nat.le_of_ble_eq_true rfl) rfl (fun μ4 hg_μ4 => ?_)
        have hq3 : μ4 _ = some _ := hg_μ4 ▸ updM_eq _ _ _
        simp only [List.set] at hq3 hg_μ4
        obtain ⟨hT4, hk4⟩ := hT3.p_ri hBq (some r) hg_μ4
        refine aw_goto (tgt := 79) dJ23_rotateRight_71 (by decide) ?_
        exact AW.bud (aw_locals (by exact ⟨rfl, rfl, rfl, trivial⟩) (s79 μ4 pac _ _ _ rt (by rw [hq]; exact hT4) e1 (zRle_1 hq hl) (zRri_0 (fun x z => by (have := hq.symm.trans z.1; cases this; exact z.2 hl))) (by rw [if_neg (by rw [hq]; simp)]) (by rw [if_neg (by rw [hq]; simp)]) ((hk.tr hk3).tr hk4))) (by omega) (by omega)
      · skip
        first | refine aw_acmpQR_ne (tgt := 74) (q := 66) dJ23_rotateRight_63 (by decide) rfl (fun _ => ?_) (fun hZ => absurd hZ ((fun z => hl ((hT3.injO hlb hBp).mp z))))
        first | refine aw_aload_n (i := 3) (q := 75) dJ23_rotateRight_74 rfl rfl rfl ?_ | refine aw_aloadN_n (i := 3) (q := 75) dJ23_rotateRight_74 rfl rfl rfl ?_ | refine aw_aloadQ_n (i := 3) (q := 75) dJ23_rotateRight_74 rfl rfl rfl ?_
        first | refine aw_aload_n (i := 2) (q := 76) dJ23_rotateRight_75 rfl rfl rfl ?_ | refine aw_aloadN_n (i := 2) (q := 76) dJ23_rotateRight_75 rfl rfl rfl ?_ | refine aw_aloadQ_n (i := 2) (q := 76) dJ23_rotateRight_75 rfl rfl rfl ?_
        refine aw_putfield (q := 79) dJ23_rotateRight_76 gf_J23_39_15 hq3 (by first | assumption | simp) (by first | rfl | exact znar_rf _ _ | exact zB_nar _) (by first | rfl | exact zfit_rf _ _ | exact zB_fit _) (Nat.le_of_ble_eq_true rfl) rfl (fun μ4 hg_μ4 => ?_)
        have hq3 : μ4 _ = some _ := hg_μ4 ▸ updM_eq _ _ _
        simp only [List.set] at hq3 hg_μ4
        obtain ⟨hT4, hk4⟩ := hT3.p_le hBq (some r) hg_μ4
        exact AW.bud (aw_locals (by exact ⟨rfl, rfl, rfl, trivial⟩) (s79 μ4 pac ri _ _ rt (by rw [hq]; exact hT4) e1 (zRle_0 (fun x z => by (have := hq.symm.trans z.1; cases this; exact hl z.2))) (zRri_1 hq hl nqp) (by rw [if_neg (by rw [hq]; simp)]) (by rw [if_neg (by rw [hq]; simp)]) ((hk.tr hk3).tr hk4))) (by omega) (by omega)
  have hp0 := (hT p hBp).2
  have hr0 := (hT r hBr).2
  rw [hr] at hp0
  simp only [Option.map_some, zrf_s] at hp0
  refine meets_of (by decide +kernel) (Nat.le_of_ble_eq_true rfl) ?_
  first | refine aw_aload_n (i := 1) (q := 1) dJ23_rotateRight_0 rfl rfl rfl ?_ | refine aw_aloadN_n (i := 1) (q := 1) dJ23_rotateRight_0 rfl rfl rfl ?_ | refine aw_aloadQ_n (i := 1) (q := 1) dJ23_rotateRight_0 rfl rfl rfl ?_
  refine aw_ifnull_r (q := 4) dJ23_rotateRight_1 rfl ?_
  first | refine aw_aload_n (i := 1) (q := 5) dJ23_rotateRight_4 rfl rfl rfl ?_ | refine aw_aloadN_n (i := 1) (q := 5) dJ23_rotateRight_4 rfl rfl rfl ?_ | refine aw_aloadQ_n (i := 1) (q := 5) dJ23_rotateRight_4 rfl rfl rfl ?_
  refine aw_getfield (q := 8) dJ23_rotateRight_5 gf_J23_39_15 (by assumption) rfl rfl ?_
  refine aw_dup (q := 9) dJ23_rotateRight_8 (by first | rfl | exact zcat_rf _) rfl ?_
  first | refine aw_astore_n (i := 2) (q := 10) dJ23_rotateRight_9 rfl (by decide) rfl ?_ | refine aw_astoreN_n (i := 2) (q := 10) dJ23_rotateRight_9 rfl (by decide) rfl ?_ | refine aw_astoreQ_n (i := 2) (q := 10) dJ23_rotateRight_9 rfl (by decide) rfl ?_
  refine aw_ifnull_r (q := 13) dJ23_rotateRight_10 rfl ?_
  first | refine aw_aload_n (i := 1) (q := 14) dJ23_rotateRight_13 rfl rfl rfl ?_ | refine aw_aloadN_n (i := 1) (q := 14) dJ23_rotateRight_13 rfl rfl rfl ?_ | refine aw_aloadQ_n (i := 1) (q := 14) dJ23_rotateRight_13 rfl rfl rfl ?_
  first | refine aw_aload_n (i := 2) (q := 15) dJ23_rotateRight_14 rfl rfl rfl ?_ | refine aw_aloadN_n (i := 2) (q := 15) dJ23_rotateRight_14 rfl rfl rfl ?_ | refine aw_aloadQ_n (i := 2) (q := 15) dJ23_rotateRight_14 rfl rfl rfl ?_
  refine aw_getfield (q := 18) dJ23_rotateRight_15 gf_J23_42_15 (by assumption) rfl rfl ?_
  refine aw_dup_x1 (q := 19) dJ23_rotateRight_18 (by first | rfl | exact zcat_rf _) (by first | rfl | exact zcat_rf _) rfl ?_
  refine aw_putfield (q := 22) dJ23_rotateRight_19 gf_J23_39_15 hp0 (by first | assumption | simp) (by first | rfl | exact znar_rf _ _ | exact zB_nar _) (by first | rfl | exact zfit_rf _ _ | exact zB_fit _) (Nat.le_of_ble_eq_true rfl) rfl (fun μ1 hg_μ1 => ?_)
  have hp0 : μ1 _ = some _ := hg_μ1 ▸ updM_eq _ _ _
  simp only [List.set] at hp0 hg_μ1
  obtain ⟨hT1, hk1⟩ := hT.p_le hBp (ri r) hg_μ1
  refine aw_dup (q := 23) dJ23_rotateRight_22 (by first | rfl | exact zcat_rf _) rfl ?_
  first | refine aw_astore (q := 25) dJ23_rotateRight_23 (by decide) rfl ?_ | refine aw_astoreN (q := 25) dJ23_rotateRight_23 (by decide) rfl ?_ | refine aw_astoreQ (q := 25) dJ23_rotateRight_23 (by decide) rfl ?_
  cases hc : ri r with
  | none =>
    simp only [Option.map_some, Option.map_none, zrf_s, zrf_n]
    refine aw_ifnull_n (tgt := 34) dJ23_rotateRight_25 (by decide) ?_
    exact AW.bud (aw_locals (by exact ⟨rfl, rfl, rfl, trivial⟩) (s34 μ1 pa hT1 rfl (zRpa_0 hc) hk1)) (by omega) (by omega)
  | some c =>
    obtain ⟨hcT, hca, hcb⟩ := hcs c hc
    have hBc := hTB c hcT
    have ncp : c ≠ p := fun e => by subst e; omega
    simp only [Option.map_some, Option.map_none, zrf_s, zrf_n]
    refine aw_ifnull_r (q := 28) dJ23_rotateRight_25 rfl ?_
    have hc1 := (hT1 c hBc).2
    first | refine aw_aload (q := 30) dJ23_rotateRight_28 rfl rfl ?_ | refine aw_aloadN (q := 30) dJ23_rotateRight_28 rfl rfl ?_ | refine aw_aloadQ (q := 30) dJ23_rotateRight_28 rfl rfl ?_
    first | refine aw_aload_n (i := 1) (q := 31) dJ23_rotateRight_30 rfl rfl rfl ?_ | refine aw_aloadN_n (i := 1) (q := 31) dJ23_rotateRight_30 rfl rfl rfl ?_ | refine aw_aloadQ_n (i := 1) (q := 31) dJ23_rotateRight_30 rfl rfl rfl ?_
    refine aw_putfield (q := 34) dJ23_rotateRight_31 gf_J23_9_15 hc1 (by first | assumption | simp) (by first | rfl | exact znar_rf _ _ | exact zB_nar _) (by first | rfl | exact zfit_rf _ _ | exact zB_fit _) (Nat.le_of_ble_eq_true rfl) rfl (fun μ2 hg_μ2 => ?_)
    have hc1 : μ2 _ = some _ := hg_μ2 ▸ updM_eq _ _ _
    simp only [List.set] at hc1 hg_μ2
    obtain ⟨hT2, hk2⟩ := hT1.p_pa hBc (some p) hg_μ2
    exact AW.bud (aw_locals (by exact ⟨rfl, rfl, rfl, trivial⟩) (s34 μ2 _ hT2 (va_up_ne _ _ (Ne.symm ncp)) (zRpa_1 hc) (hk1.tr hk2))) (by omega) (by omega)
end ZRW
