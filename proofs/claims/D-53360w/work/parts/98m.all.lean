/-! THE PROGRAMME: its maps; isFree, freeFrom -/
set_option maxRecDepth 100000
/-- the map of what is planned: keys are times, values shows (those that pl names) -/
def zPlq (P : zP) (pl : Nat → Prop) (ks : List Nat) (val : Nat → Nat) : Prop := (∀ h, h ∈ ks → val h < pcn P 9 ∧ pl (val h) ∧ P 3 (val h) 1 = nI (h / 6) ∧ P 3 (val h) 2 = nI (h % 6) ∧ h < 8192) ∧ (∀ s, s < pcn P 9 → pl s → ∃ h, h ∈ ks ∧ val h = s) ∧ ks.Nodup ∧ ks.length ≤ pcn P 9
abbrev zPlan (P : zP) : Nat → Prop := fun s => P 3 s 3 = 0
abbrev zPlan1 (P : zP) (x : Nat) : Nat → Prop := fun s => P 3 s 3 = 0 ∧ s ≠ x
/-- event e covers time h -/
def zCov (P : zP) (e h : Nat) : Prop := P 5 e 0 = nI (h / 6) ∧ P 5 e 1 ≤ nI (h % 6) ∧ nI (h % 6) ≤ P 5 e 1 + P 5 e 2 - 1
def zEvq (P : zP) (ks : List Nat) (val : Nat → Nat) : Prop := (∀ h, h ∈ ks → val h < pcn P 11 ∧ zCov P (val h) h ∧ h < 8192) ∧ (∀ e h, e < pcn P 11 → h < 8192 → zCov P e h → h ∈ ks ∧ val h = e) ∧ ks.length ≤ 6 * pcn P 11
theorem zTm_eq {h h' : Nat} (a : h < 2 ^ 30) (b : h' < 2 ^ 30) (e1 : nI (h / 6) = nI (h' / 6)) (e2 : nI (h % 6) = nI (h' % 6)) : h = h' := by
  have f1 := (nI_eq (by omega) (by omega)).mp e1
  have f2 := (nI_eq (by omega) (by omega)).mp e2
  omega
theorem zPlq.key {P : zP} {pl : Nat → Prop} {ks : List Nat} {val : Nat → Nat} (hP : zPlq P pl ks val) {s h : Nat} (hs : s < pcn P 9) (h0 : pl s) (h1 : P 3 s 1 = nI (h / 6)) (h2 : P 3 s 2 = nI (h % 6)) (hh : h < 8192) : h ∈ ks ∧ val h = s := by
  obtain ⟨h', m1, m2⟩ := hP.2.1 s hs h0
  obtain ⟨-, -, b3, b4, b5⟩ := hP.1 h' m1
  rw [m2] at b3 b4
  have e := zTm_eq (by omega) (by omega) (b3.symm.trans h1) (b4.symm.trans h2)
  subst e
  exact ⟨m1, m2⟩
theorem zPlq.at {P : zP} {ks : List Nat} {val : Nat → Nat} (hP : zPlq P (zPlan P) ks val) {h : Nat} (hh : h < 8192) : tPlannedAt P (nI (h / 6)) (nI (h % 6)) = if h ∈ ks then nI (val h) else -6 := by
  by_cases q : h ∈ ks
  · rw [if_pos q]
    obtain ⟨a1, a2, a3, a4, a5⟩ := hP.1 h q
    have key : ∀ n, n ≤ pcn P 9 → tPlannedAtF P (nI (h / 6)) (nI (h % 6)) n = if val h < n then nI (val h) else -6 := by
      intro n
      induction n with
      | zero => intro _; rw [if_neg (by omega)]; rfl
      | succ n ih =>
        intro hn
        unfold tPlannedAtF
        by_cases e : n = val h
        · rw [e, if_pos ⟨a2, a3, a4⟩, if_pos (by omega)]
        · rw [if_neg (fun z => e (hP.key (by omega) z.1 z.2.1 z.2.2 hh).2.symm), ih (by omega)]
          by_cases v : val h < n
          · rw [if_pos v, if_pos (by omega)]
          · rw [if_neg v, if_neg (by omega)]
    unfold tPlannedAt
    rw [key _ (Nat.le_refl _), if_pos a1]
  · rw [if_neg q]
    exact tPlannedAtF_none _ (fun s hs z => q (hP.key hs z.1 z.2.1 z.2.2 hh).1)
theorem zEvq.at {P : zP} {ks : List Nat} {val : Nat → Nat} (hE : zEvq P ks val) {h : Nat} (hh : h < 8192) : tEventAt P (nI (h / 6)) (nI (h % 6)) = if h ∈ ks then nI (val h) else -6 := by
  by_cases q : h ∈ ks
  · rw [if_pos q]
    obtain ⟨a1, a2, a5⟩ := hE.1 h q
    have key : ∀ n, n ≤ pcn P 11 → tEventAtF P (nI (h / 6)) (nI (h % 6)) n = if val h < n then nI (val h) else -6 := by
      intro n
      induction n with
      | zero => intro _; rw [if_neg (by omega)]; rfl
      | succ n ih =>
        intro hn
        unfold tEventAtF
        by_cases e : n = val h
        · rw [e, if_pos (show P 5 (val h) 0 = nI (h / 6) ∧ P 5 (val h) 1 ≤ nI (h % 6) ∧ nI (h % 6) ≤ P 5 (val h) 1 + P 5 (val h) 2 - 1 from a2), if_pos (by omega)]
        · rw [if_neg (show ¬ (P 5 n 0 = nI (h / 6) ∧ P 5 n 1 ≤ nI (h % 6) ∧ nI (h % 6) ≤ P 5 n 1 + P 5 n 2 - 1) from fun z => e (hE.2.1 n h (by omega) hh z).2.symm), ih (by omega)]
          by_cases v : val h < n
          · rw [if_pos v, if_pos (by omega)]
          · rw [if_neg v, if_neg (by omega)]
    unfold tEventAt
    rw [key _ (Nat.le_refl _), if_pos a1]
  · rw [if_neg q]
    exact tEventAtF_none _ (fun e he z => q (hE.2.1 e h he hh z).1)
theorem zNeg6 : (-6 : Int32) < 0 := by decide
theorem zFree_iff {P : zP} {ks ks' : List Nat} {val val' : Nat → Nat} (hO : tOk P) (hP : zPlq P (zPlan P) ks val) (hE : zEvq P ks' val') {h : Nat} (hh : h < 8192) : tFreeT P h ↔ h ∉ ks ∧ h ∉ ks' := by
  have h9 : pcn P 9 ≤ 60 := hO.s.2
  have h11 : pcn P 11 ≤ 20 := hO.e.2
  have nn : ∀ v, v < 100 → ¬ nI v < 0 := fun v hv => Int32.not_lt.mpr (nI_le (a := 0) (b := v) (by omega) (by omega))
  show (_ < 0 ∧ _ < 0) ↔ _
  rw [hP.at hh, hE.at hh]
  by_cases q : h ∈ ks
  · have a := (hP.1 h q).1
    rw [if_pos q]
    exact ⟨fun z => absurd z.2 (nn _ (by omega)), fun z => absurd q z.1⟩
  · rw [if_neg q]
    by_cases q' : h ∈ ks'
    · have a := (hE.1 h q').1
      rw [if_pos q']
      exact ⟨fun z => absurd z.1 (nn _ (by omega)), fun z => absurd q' z.2⟩
    · rw [if_neg q']
      exact ⟨fun _ => ⟨q, q'⟩, fun _ => ⟨zNeg6, zNeg6⟩⟩
section ZPN
variable {G : zG} {μ μ' : zM} {p o : Nat} {P : zP} {A : Nat → Nat → Nat} {c : Nat → Int32}
/-- both maps in memory -/
def zMap1 (G : zG) (μ : zM) (o : Nat) (A : Nat → Nat → Nat) (ks : List Nat) (val : Nat → Nat) : Prop := zHM G μ 3 o (A 0 1) true ks val
def zMap2 (G : zG) (μ : zM) (o : Nat) (A : Nat → Nat → Nat) (ks : List Nat) (val : Nat → Nat) : Prop := zHM G μ 10001 o (A 0 2) false ks val
/-- the maps of a programme -/
def zPM (G : zG) (μ : zM) (o : Nat) (P : zP) (A : Nat → Nat → Nat) : Prop := (∃ ks val, zMap1 G μ o A ks val ∧ zPlq P (zPlan P) ks val) ∧ ∃ ks val, zMap2 G μ o A ks val ∧ zEvq P ks val
theorem zHM.cell {R m : Nat} {pl : Bool} {ks : List Nat} {val : Nat → Nat} (h : zHM G μ R o m pl ks val) : ∃ fs, μ m = some (hmT R o, .inr (19, fs)) := by
  rcases h with ⟨tb, k, es, mc, ⟨h1, -⟩, -⟩ | ⟨-, es, mc, thr, ⟨h2, -⟩, -⟩
  · exact ⟨_, h1⟩
  · exact ⟨_, h2⟩
theorem zHM.ko {R m : Nat} {pl : Bool} {ks : List Nat} {val : Nat → Nat} (h : zHM G μ R o m pl ks val) (hk : zKp (zKo o) μ μ') (hR : 1 ≤ R) (hR2 : R + 8194 ≤ 20000) : zHM G μ' R o m pl ks val := by
  refine h.kp hk (fun c u t q => ?_) (fun c q => ?_)
  · have t2 : u.1 < R + 8194 := t.2.2
    have q2 : 20000 ≤ u.1 := q.2
    omega
  · have q2 : 20000 ≤ 0 := q.2
    omega
theorem zHM.fr {R m : Nat} {pl : Bool} {ks : List Nat} {val : Nat → Nat} (h : zHM G μ R o m pl ks val) (hk : zKp zF μ μ') : zHM G μ' R o m pl ks val := h.kp hk (fun _ _ _ q => q) (fun _ q => q)
theorem zHM.mo {R R' m : Nat} {pl : Bool} {ks : List Nat} {val : Nat → Nat} (h : zHM G μ R o m pl ks val) (hk : zKp (zMt R' o) μ μ') (hR' : 1 ≤ R') (hd : R + 8194 ≤ R' ∨ R' + 8194 ≤ R) : zHM G μ' R o m pl ks val := by
  refine h.kp hk (fun c u t q => ?_) (fun c q => ?_)
  · have t1 : R ≤ u.1 := t.2.1
    have t2 : u.1 < R + 8194 := t.2.2
    have q1 : R' ≤ u.1 := q.2.1
    have q2 : u.1 < R' + 8194 := q.2.2
    omega
  · have q1 : R' ≤ 0 := q.2.1
    omega
theorem zPR.mp {R : Nat} (h : zPR G μ p o P A c) (hk : zKp (zMt R o) μ μ') (hR : 1 ≤ R) (hR2 : R + 8194 ≤ 20000) : zPR G μ' p o P A c := by
  refine h.kp hk (fun b u q t => ?_)
  have t1 : R ≤ u.1 := t.2.1
  have t2 : u.1 < R + 8194 := t.2.2
  rcases q with q | ⟨-, q⟩
  · rw [q] at t1
    have t1 : R ≤ 0 := t1
    omega
  · omega
/-- all that is the programme's -/
abbrev zOw (o : Nat) : Nat → zT → Prop := fun _ u => u.2 = o
theorem zKp.ko {o : Nat} (h : zKp (zKo o) μ μ') : zKp (zOw o) μ μ' := h.mono (fun _ _ q => q.1)
theorem zKp.mt {R o : Nat} (h : zKp (zMt R o) μ μ') : zKp (zOw o) μ μ' := h.mono (fun _ _ q => q.1)
theorem zKp.f0 {T : Nat → zT → Prop} (h : zKp zF μ μ') : zKp T μ μ' := h.mono (fun _ _ q => q.elim)
abbrev zTim (μ : zM) (a t : Nat) : Prop := μ a = some ((0, 0), oTime (nI (t / 6)) (nI (t % 6)))
set_option maxHeartbeats 600000 in
theorem C_isFree {a t : Nat} {ks ks' : List Nat} {val val' : Nat → Nat} (h : zPR G μ p o P A c) (m1 : zMap1 G μ o A ks val) (m2 : zMap2 G μ o A ks' val') (ha : zTim μ a t) (ht : t < 8192) : Meets G 6 MX1_isFree [.ref p, .ref a] μ (zPure (.int (zB (t ∉ ks ∧ t ∉ ks'))) μ) 0 0 := by
  have hp := h.1
  obtain ⟨f1, c1⟩ := zHM.cell m1
  obtain ⟨f2, c2⟩ := zHM.cell m2
  refine meets_of (by decide +kernel) (Nat.le_of_ble_eq_true rfl) ?_
  first | refine aw_aload_n (i := 0) (q := 1) dX1_isFree_0 rfl rfl rfl ?_ | refine aw_aloadN_n (i := 0) (q := 1) dX1_isFree_0 rfl rfl rfl ?_ | refine aw_aloadQ_n (i := 0) (q := 1) dX1_isFree_0 rfl rfl rfl ?_
  refine aw_getfield (q := 4) dX1_isFree_1 gf_X1_37_1 (by assumption) rfl rfl ?_
  first | refine aw_aload_n (i := 1) (q := 5) dX1_isFree_4 rfl rfl rfl ?_ | refine aw_aloadN_n (i := 1) (q := 5) dX1_isFree_4 rfl rfl rfl ?_ | refine aw_aloadQ_n (i := 1) (q := 5) dX1_isFree_4 rfl rfl rfl ?_
  refine aw_z ?_
  refine aw_callF (q := 10) dX1_isFree_5 (C_HM_contains m1 ha ht) cf_X1_211_19 (by assumption) rfl rfl (by decide) (by decide) (by first | exact Nat.le_of_ble_eq_true rfl | simp [zcat_rf, Value.category]) rfl (zpk ?_)
  refine aw_if_ne (tgt := 30) (q := 13) dX1_isFree_10 (by decide) rfl (fun b1 => ?_) (fun b1 => ?_)
  · refine aw_iconst (v := 0) (q := 31) dX1_isFree_30 rfl rfl ?_
    have q : t ∈ ks := Classical.byContradiction (fun n => b1 (zB_f n))
    exact aw_ireturn dX1_isFree_31 rfl (by first | rfl | exact zB_nar _) (⟨by rw [zB_f (p := t ∉ ks ∧ t ∉ ks') (fun z => z.1 q)], rfl⟩)
  · first | refine aw_aload_n (i := 0) (q := 14) dX1_isFree_13 rfl rfl rfl ?_ | refine aw_aloadN_n (i := 0) (q := 14) dX1_isFree_13 rfl rfl rfl ?_ | refine aw_aloadQ_n (i := 0) (q := 14) dX1_isFree_13 rfl rfl rfl ?_
    refine aw_getfield (q := 17) dX1_isFree_14 gf_X1_41_1 (by assumption) rfl rfl ?_
    first | refine aw_aload_n (i := 1) (q := 18) dX1_isFree_17 rfl rfl rfl ?_ | refine aw_aloadN_n (i := 1) (q := 18) dX1_isFree_17 rfl rfl rfl ?_ | refine aw_aloadQ_n (i := 1) (q := 18) dX1_isFree_17 rfl rfl rfl ?_
    refine aw_z ?_
    refine aw_callF (q := 23) dX1_isFree_18 (C_HM_contains m2 ha ht) cf_X1_211_19 (by assumption) rfl rfl (by decide) (by decide) (by first | exact Nat.le_of_ble_eq_true rfl | simp [zcat_rf, Value.category]) rfl (zpk ?_)
    refine aw_if_ne (tgt := 30) (q := 26) dX1_isFree_23 (by decide) rfl (fun b2 => ?_) (fun b2 => ?_)
    · refine aw_iconst (v := 0) (q := 31) dX1_isFree_30 rfl rfl ?_
      have q : t ∈ ks' := Classical.byContradiction (fun n => b2 (zB_f n))
      exact aw_ireturn dX1_isFree_31 rfl (by first | rfl | exact zB_nar _) (⟨by rw [zB_f (p := t ∉ ks ∧ t ∉ ks') (fun z => z.2 q)], rfl⟩)
    · refine aw_iconst (v := 1) (q := 27) dX1_isFree_26 rfl rfl ?_
      refine aw_goto (tgt := 31) dX1_isFree_27 (by decide) ?_
      exact aw_ireturn dX1_isFree_31 rfl (by first | rfl | exact zB_nar _) (⟨by rw [zB_t (p := t ∉ ks ∧ t ∉ ks') ⟨zB_ne.mp b1, zB_ne.mp b2⟩], rfl⟩)
/-- what freeFrom leaves: w is the first free time, or too late -/
def zFfP (G : zG) (μ : zM) (last : Int32) (w : Nat) : Option Value → zM → Prop := fun v μ' => zKp zF μ μ' ∧ ((last < nI (w / 6) ∧ v = some (.ref (G.2.2.2 1)) ∧ μ' (G.2.2.2 1) = some (zC, .inr (18, [.null]))) ∨ (¬ last < nI (w / 6) ∧ ∃ b x, v = some (.ref b) ∧ μ' b = some (zTI, .inr (18, [.ref x])) ∧ zTim μ' x w))
set_option maxHeartbeats 600000 in
theorem C_freeFrom {a t n : Nat} {last : Int32} {ks ks' : List Nat} {val val' : Nat → Nat} (h : zPR G μ p o P A c) (m1 : zMap1 G μ o A ks val) (m2 : zMap2 G μ o A ks' val') (ha : zTim μ a t) (hw : t + n < 8192) (hfree : (t + n ∉ ks ∧ t + n ∉ ks') ∨ last < nI ((t + n) / 6)) (hb : ∀ u, t ≤ u → u < t + n → ¬ (u ∉ ks ∧ u ∉ ks') ∧ ¬ last < nI (u / 6)) : Meets G 7 MX1_freeFrom [.ref p, .ref a, .int last] μ (zFfP G μ last (t + n)) (n + 1) (2 * n + 1) := by
  obtain ⟨w, ew⟩ : ∃ w, t + n = w := ⟨_, rfl⟩
  rw [ew] at hw hfree hb ⊢
  have loop : ∀ (n t b : Nat) (μ2 : zM), t + n = w → zKp zF μ μ2 → zTim μ2 b t → (∀ u, t ≤ u → u < w → ¬ (u ∉ ks ∧ u ∉ ks') ∧ ¬ last < nI (u / 6)) → ∀ bc bs, n + 1 ≤ bc → 2 * n + 1 ≤ bs → AW G 7 MX1_freeFrom (zFfP G μ last w) bc bs 2 [(0, .ref p), (1, .ref a), (2, .int last), (3, .ref b)] [] μ2 := by
    intro n
    induction n with
    | zero =>
      intro t b μ2 e hk hb2 hbe bc bs h1 h2
      have e : t = w := e
      subst e
      by_cases hl : last < nI (t / 6)
      · skip
        first | refine aw_aload_n (i := 3) (q := 3) dX1_freeFrom_2 rfl rfl rfl ?_ | refine aw_aloadN_n (i := 3) (q := 3) dX1_freeFrom_2 rfl rfl rfl ?_ | refine aw_aloadQ_n (i := 3) (q := 3) dX1_freeFrom_2 rfl rfl rfl ?_
        refine aw_getfield (q := 6) dX1_freeFrom_3 gf_X1_206_8 (by assumption) rfl rfl ?_
        refine aw_iload_n (i := 2) (q := 7) dX1_freeFrom_6 rfl rfl rfl ?_
        refine aw_icmp_gt (tgt := 26) (q := 10) dX1_freeFrom_7 (by decide) rfl (fun _ => ?_) (fun hZ => absurd (hl) hZ)
        first | refine aw_aload_n (i := 3) (q := 27) dX1_freeFrom_26 rfl rfl rfl ?_ | refine aw_aloadN_n (i := 3) (q := 27) dX1_freeFrom_26 rfl rfl rfl ?_ | refine aw_aloadQ_n (i := 3) (q := 27) dX1_freeFrom_26 rfl rfl rfl ?_
        refine aw_getfield (q := 30) dX1_freeFrom_27 gf_X1_206_8 (by assumption) rfl rfl ?_
        refine aw_iload_n (i := 2) (q := 31) dX1_freeFrom_30 rfl rfl rfl ?_
        refine aw_icmp_gt (tgt := 41) (q := 34) dX1_freeFrom_31 (by decide) rfl (fun _ => ?_) (fun hZ => absurd (hl) hZ)
        refine aw_z ?_
        refine aw_callS (q := 44) dX1_freeFrom_41 (C_Opt_empty) cs_X1_138 rfl rfl (by decide) (by decide) (by first | exact Nat.le_of_ble_eq_true rfl | simp [zcat_rf, Value.category]) rfl (fun v41 μ3 hp => ?_)
        obtain ⟨rfl, rfl, hem⟩ := hp
        exact aw_areturnR dX1_freeFrom_44 rfl (by first | exact Or.inl ⟨_, rfl⟩ | exact Or.inr ⟨_, rfl⟩) (⟨hk, Or.inl ⟨hl, rfl, hem⟩⟩)
      · have hfr := hfree.resolve_right hl
        have hp2 := (zF.pr h hk).1
        first | refine aw_aload_n (i := 3) (q := 3) dX1_freeFrom_2 rfl rfl rfl ?_ | refine aw_aloadN_n (i := 3) (q := 3) dX1_freeFrom_2 rfl rfl rfl ?_ | refine aw_aloadQ_n (i := 3) (q := 3) dX1_freeFrom_2 rfl rfl rfl ?_
        refine aw_getfield (q := 6) dX1_freeFrom_3 gf_X1_206_8 (by assumption) rfl rfl ?_
        refine aw_iload_n (i := 2) (q := 7) dX1_freeFrom_6 rfl rfl rfl ?_
        refine aw_icmp_gt (tgt := 26) (q := 10) dX1_freeFrom_7 (by decide) rfl (fun hZ => absurd hZ (hl)) (fun _ => ?_)
        first | refine aw_aload_n (i := 0) (q := 11) dX1_freeFrom_10 rfl rfl rfl ?_ | refine aw_aloadN_n (i := 0) (q := 11) dX1_freeFrom_10 rfl rfl rfl ?_ | refine aw_aloadQ_n (i := 0) (q := 11) dX1_freeFrom_10 rfl rfl rfl ?_
        first | refine aw_aload_n (i := 3) (q := 12) dX1_freeFrom_11 rfl rfl rfl ?_ | refine aw_aloadN_n (i := 3) (q := 12) dX1_freeFrom_11 rfl rfl rfl ?_ | refine aw_aloadQ_n (i := 3) (q := 12) dX1_freeFrom_11 rfl rfl rfl ?_
        refine aw_z ?_
        refine aw_callV (q := 15) dX1_freeFrom_12 (C_isFree (zF.pr h hk) (zHM.fr m1 hk) (zHM.fr m2 hk) hb2 hw) cv_X1_214_1 (by assumption) rfl rfl (by decide) (by decide) (by first | exact Nat.le_of_ble_eq_true rfl | simp [zcat_rf, Value.category]) rfl (zpk ?_)
        refine aw_if_ne (tgt := 26) (q := 18) dX1_freeFrom_15 (by decide) rfl (fun _ => ?_) (fun hZ => absurd hZ ((by rw [zB_t hfr]; decide)))
        first | refine aw_aload_n (i := 3) (q := 27) dX1_freeFrom_26 rfl rfl rfl ?_ | refine aw_aloadN_n (i := 3) (q := 27) dX1_freeFrom_26 rfl rfl rfl ?_ | refine aw_aloadQ_n (i := 3) (q := 27) dX1_freeFrom_26 rfl rfl rfl ?_
        refine aw_getfield (q := 30) dX1_freeFrom_27 gf_X1_206_8 (by assumption) rfl rfl ?_
        refine aw_iload_n (i := 2) (q := 31) dX1_freeFrom_30 rfl rfl rfl ?_
        refine aw_icmp_gt (tgt := 41) (q := 34) dX1_freeFrom_31 (by decide) rfl (fun hZ => absurd hZ (hl)) (fun _ => ?_)
        first | refine aw_aload_n (i := 3) (q := 35) dX1_freeFrom_34 rfl rfl rfl ?_ | refine aw_aloadN_n (i := 3) (q := 35) dX1_freeFrom_34 rfl rfl rfl ?_ | refine aw_aloadQ_n (i := 3) (q := 35) dX1_freeFrom_34 rfl rfl rfl ?_
        refine AW.bud (bc' := (bc - 1) + 1) (bs' := (bs - 1) + 1) ?_ (by omega) (by omega)
        refine aw_callS (q := 38) dX1_freeFrom_35 (C_Opt_of (u := zTI) zTI_nz) cs_X1_148 rfl rfl (by decide) (by decide) (by first | exact Nat.le_of_ble_eq_true rfl | simp [zcat_rf, Value.category]) rfl (fun v35 μ3 hp => ?_)
        obtain ⟨x, rfl, hx, hg⟩ := hp
        refine aw_goto (tgt := 44) dX1_freeFrom_38 (by decide) ?_
        have hb3 : zTim μ3 b t := hg ▸ (updM_ne (zneN hb2 hx)).trans hb2
        exact aw_areturnR dX1_freeFrom_44 rfl (by first | exact Or.inl ⟨_, rfl⟩ | exact Or.inr ⟨_, rfl⟩) (⟨hk.tr (hg ▸ zKp.new hx), Or.inr ⟨hl, x, b, rfl, hg ▸ updM_eq _ _ _, hb3⟩⟩)
    | succ n ih =>
      intro t b μ2 e hk hb2 hbe bc bs h1 h2
      obtain ⟨hnf, hl⟩ := hbe t (Nat.le_refl t) (by omega)
      have hp2 := (zF.pr h hk).1
      first | refine aw_aload_n (i := 3) (q := 3) dX1_freeFrom_2 rfl rfl rfl ?_ | refine aw_aloadN_n (i := 3) (q := 3) dX1_freeFrom_2 rfl rfl rfl ?_ | refine aw_aloadQ_n (i := 3) (q := 3) dX1_freeFrom_2 rfl rfl rfl ?_
      refine aw_getfield (q := 6) dX1_freeFrom_3 gf_X1_206_8 (by assumption) rfl rfl ?_
      refine aw_iload_n (i := 2) (q := 7) dX1_freeFrom_6 rfl rfl rfl ?_
      refine aw_icmp_gt (tgt := 26) (q := 10) dX1_freeFrom_7 (by decide) rfl (fun hZ => absurd hZ (hl)) (fun _ => ?_)
      first | refine aw_aload_n (i := 0) (q := 11) dX1_freeFrom_10 rfl rfl rfl ?_ | refine aw_aloadN_n (i := 0) (q := 11) dX1_freeFrom_10 rfl rfl rfl ?_ | refine aw_aloadQ_n (i := 0) (q := 11) dX1_freeFrom_10 rfl rfl rfl ?_
      first | refine aw_aload_n (i := 3) (q := 12) dX1_freeFrom_11 rfl rfl rfl ?_ | refine aw_aloadN_n (i := 3) (q := 12) dX1_freeFrom_11 rfl rfl rfl ?_ | refine aw_aloadQ_n (i := 3) (q := 12) dX1_freeFrom_11 rfl rfl rfl ?_
      refine aw_z ?_
      refine aw_callV (q := 15) dX1_freeFrom_12 (C_isFree (zF.pr h hk) (zHM.fr m1 hk) (zHM.fr m2 hk) hb2 (by omega)) cv_X1_214_1 (by assumption) rfl rfl (by decide) (by decide) (by first | exact Nat.le_of_ble_eq_true rfl | simp [zcat_rf, Value.category]) rfl (zpk ?_)
      refine aw_if_ne (tgt := 26) (q := 18) dX1_freeFrom_15 (by decide) rfl (fun hZ => absurd ((zB_f hnf)) hZ) (fun _ => ?_)
      first | refine aw_aload_n (i := 3) (q := 19) dX1_freeFrom_18 rfl rfl rfl ?_ | refine aw_aloadN_n (i := 3) (q := 19) dX1_freeFrom_18 rfl rfl rfl ?_ | refine aw_aloadQ_n (i := 3) (q := 19) dX1_freeFrom_18 rfl rfl rfl ?_
      refine AW.bud (bc' := (bc - 1) + 1) (bs' := (bs - 2) + 2) ?_ (by omega) (by omega)
      refine aw_callV (q := 22) dX1_freeFrom_19 (C_Time_next (d := t / 6) (s := t % 6) hb2 (by omega) (by omega) z00_nz) cv_X1_218_8 (by assumption) rfl rfl (by decide) (by decide) (by first | exact Nat.le_of_ble_eq_true rfl | simp [zcat_rf, Value.category]) rfl (fun v19 μ3 hp => ?_)
      obtain ⟨b', rfl, hn, hg⟩ := hp
      rw [show 6 * (t / 6) + t % 6 + 1 = t + 1 by omega] at hg
      have hb3 : zTim μ3 b' (t + 1) := hg ▸ updM_eq _ _ _
      first | refine aw_astore_n (i := 3) (q := 23) dX1_freeFrom_22 rfl (by decide) rfl ?_ | refine aw_astoreN_n (i := 3) (q := 23) dX1_freeFrom_22 rfl (by decide) rfl ?_ | refine aw_astoreQ_n (i := 3) (q := 23) dX1_freeFrom_22 rfl (by decide) rfl ?_
      refine aw_goto (tgt := 2) dX1_freeFrom_23 (by decide) ?_
      exact AW.bud (aw_locals (by exact ⟨rfl, rfl, rfl, rfl, trivial⟩) (ih (t + 1) b' μ3 (by omega) (hk.tr (hg ▸ zKp.new hn)) hb3 (fun u u1 u2 => hbe u (by omega) u2) (bc - 1) (bs - 2) (by omega) (by omega))) (by omega) (by omega)
  refine meets_of (by decide +kernel) (Nat.le_of_ble_eq_true rfl) ?_
  first | refine aw_aload_n (i := 1) (q := 1) dX1_freeFrom_0 rfl rfl rfl ?_ | refine aw_aloadN_n (i := 1) (q := 1) dX1_freeFrom_0 rfl rfl rfl ?_ | refine aw_aloadQ_n (i := 1) (q := 1) dX1_freeFrom_0 rfl rfl rfl ?_
  first | refine aw_astore_n (i := 3) (q := 2) dX1_freeFrom_1 rfl (by decide) rfl ?_ | refine aw_astoreN_n (i := 3) (q := 2) dX1_freeFrom_1 rfl (by decide) rfl ?_ | refine aw_astoreQ_n (i := 3) (q := 2) dX1_freeFrom_1 rfl (by decide) rfl ?_
  exact AW.bud (aw_locals (by exact ⟨rfl, rfl, rfl, rfl, trivial⟩) (loop n t a μ ew zKp.rf ha hb _ _ (Nat.le_refl _) (Nat.le_refl _))) (by omega) (by omega)
end ZPN

/-! THE PROGRAMME: a show is planned -/
set_option maxRecDepth 100000
theorem ca5O : zCast 5 "java/lang/Object" := ca_5_J29
theorem tFreeInF_none {P : zP} {x : Int32} {r : Nat} : ∀ n, (∀ b, b < n → P 4 b 0 ≠ x) → tFreeInF P x r n = 12
  | 0, _ => rfl
  | n + 1, h => by
    unfold tFreeInF
    rw [tFreeInF_none n (fun b hb => h b (by omega)), if_neg (h n (by omega)), Int32.sub_zero]
section ZPO
variable {G : zG} {μ : zM} {p o : Nat} {P : zP} {A : Nat → Nat → Nat} {c : Nat → Int32}
theorem tShowAdd_o {d sl k : Int32} {s i j : Nat} (h : ¬ (s = 3 ∧ i = pcn P 9) ∧ ¬ (s = 0 ∧ i = 0 ∧ j = 9)) : tShowAdd P d sl k s i j = P s i j := by
  unfold tShowAdd
  rw [updP_ne (by omega), updP_ne (by omega), updP_ne (by omega), updP_ne (by omega), updP_ne (by omega), updP_ne (by omega), updP_ne (by omega), updP_ne (by omega)]
theorem tShowAdd_cn {d sl k : Int32} (hn : pcn P 9 ≤ 60) : pcn (tShowAdd P d sl k) 9 = pcn P 9 + 1 := by
  unfold tShowAdd pcn
  rw [updP_eq]
  exact nI_clamp (by have : pcn P 9 + 1 < 2 ^ 31 := by omega
                     exact this)
theorem tShowAdd_co {d sl k : Int32} {j : Nat} (h : j ≠ 9) : pcn (tShowAdd P d sl k) j = pcn P j := by
  unfold pcn; rw [tShowAdd_o ⟨by omega, by omega⟩]
theorem tShowAdd_n {d sl k : Int32} {j : Nat} (hj : j < 7) : tShowAdd P d sl k 3 (pcn P 9) j = match j with | 0 => k | 1 => d | 2 => sl | 3 => 0 | 4 => -6 | 5 => 0 | _ => 0 := by
  unfold tShowAdd
  rw [updP_ne (by omega)]
  have hj' : j = 0 ∨ j = 1 ∨ j = 2 ∨ j = 3 ∨ j = 4 ∨ j = 5 ∨ j = 6 := by omega
  rcases hj' with rfl | rfl | rfl | rfl | rfl | rfl | rfl
  · rw [updP_ne (by omega), updP_ne (by omega), updP_ne (by omega), updP_ne (by omega), updP_ne (by omega), updP_ne (by omega), updP_eq]; rfl
  · rw [updP_ne (by omega), updP_ne (by omega), updP_ne (by omega), updP_ne (by omega), updP_ne (by omega), updP_eq]; rfl
  · rw [updP_ne (by omega), updP_ne (by omega), updP_ne (by omega), updP_ne (by omega), updP_eq]; rfl
  · rw [updP_ne (by omega), updP_ne (by omega), updP_ne (by omega), updP_eq]; rfl
  · rw [updP_ne (by omega), updP_ne (by omega), updP_eq]; rfl
  · rw [updP_ne (by omega), updP_eq]; rfl
  · rw [updP_eq]; rfl
/-- the planned shows' times lie in a window -/
def zWd (P : zP) (pl : Nat → Prop) (w : Nat) : Prop := ∀ s, s < pcn P 9 → pl s → ∃ h, w ≤ h ∧ h < w + 512 ∧ h < 8192 ∧ P 3 s 1 = nI (h / 6) ∧ P 3 s 2 = nI (h % 6)
theorem zWd.win {pl : Nat → Prop} {w t : Nat} {ks : List Nat} {val : Nat → Nat} (hw : zWd P pl w) (hP : zPlq P pl ks val) (h1 : w ≤ t) (h2 : t < w + 512) : zWin true ks t := by
  intro _
  refine ⟨w, fun x hx => ?_⟩
  rcases hx with hx | rfl
  · obtain ⟨a1, a2, a3, a4, a5⟩ := hP.1 x hx
    obtain ⟨h, b1, b2, b3, b4, b5⟩ := hw _ a1 a2
    have e := zTm_eq (by omega) (by omega) (a3.symm.trans b4) (a4.symm.trans b5)
    omega
  · exact ⟨h1, h2⟩
/-- a key more -/
theorem zPlq.ins {P' : zP} {pl pl' : Nat → Prop} {ks : List Nat} {val : Nat → Nat} {t s : Nat} (hP : zPlq P pl ks val) (ht : t ∉ ks) (h8 : t < 8192) (hc : pcn P 9 ≤ pcn P' 9) (hs : s < pcn P' 9) (hl : ks.length < pcn P' 9) (hpl : pl' s) (e1 : P' 3 s 1 = nI (t / 6)) (e2 : P' 3 s 2 = nI (t % 6)) (ho : ∀ x, x < pcn P' 9 → x ≠ s → (pl' x → x < pcn P 9 ∧ pl x) ∧ (x < pcn P 9 → pl x → pl' x ∧ P' 3 x 1 = P 3 x 1 ∧ P' 3 x 2 = P 3 x 2)) (hn : s < pcn P 9 → ¬ pl s) : zPlq P' pl' (t :: ks) (upN val t s) := by
  obtain ⟨a1, a2, a3, a4⟩ := hP
  refine ⟨fun h hh => ?_, fun x hx hx2 => ?_, List.nodup_cons.mpr ⟨ht, a3⟩, hl⟩
  · rcases List.mem_cons.mp hh with rfl | hh
    · rw [upN_eq]; exact ⟨hs, hpl, e1, e2, h8⟩
    · have hne : h ≠ t := fun e => ht (e ▸ hh)
      rw [upN_ne hne]
      obtain ⟨b1, b2, b3, b4, b5⟩ := a1 h hh
      have hvs : val h ≠ s := fun e => hn (e ▸ b1) (e ▸ b2)
      obtain ⟨c1, c2, c3⟩ := (ho (val h) (by omega) hvs).2 b1 b2
      exact ⟨by omega, c1, c2.trans b3, c3.trans b4, b5⟩
  · by_cases e : x = s
    · subst e; exact ⟨t, List.mem_cons_self, upN_eq⟩
    · obtain ⟨b1, b2⟩ := (ho x hx e).1 hx2
      obtain ⟨h, c1, c2⟩ := a2 x b1 b2
      exact ⟨h, List.mem_cons_of_mem _ c1, (upN_ne (show h ≠ t from fun z => ht (z ▸ c1))).trans c2⟩
theorem zEvq.congr {P' : zP} {ks : List Nat} {val : Nat → Nat} (hE : zEvq P ks val) (hc : pcn P' 11 = pcn P 11) (he : ∀ i j, P' 5 i j = P 5 i j) : zEvq P' ks val := by
  obtain ⟨a1, a2, a3⟩ := hE
  have ec : ∀ e h, zCov P' e h = zCov P e h := fun e h => by unfold zCov; rw [he, he, he]
  refine ⟨fun h hh => ?_, fun e h h1 h2 h3 => ?_, by rw [hc]; exact a3⟩
  · rw [hc, ec]; exact a1 h hh
  · rw [hc] at h1; rw [ec] at h3; exact a2 e h h1 h2 h3
theorem zPlq.congr {P' : zP} {pl pl' : Nat → Prop} {ks : List Nat} {val : Nat → Nat} (hP : zPlq P pl ks val) (hc : pcn P' 9 = pcn P 9) (he : ∀ s, s < pcn P 9 → (pl' s ↔ pl s) ∧ (pl s → P' 3 s 1 = P 3 s 1 ∧ P' 3 s 2 = P 3 s 2)) : zPlq P' pl' ks val := by
  obtain ⟨a1, a2, a3, a4⟩ := hP
  refine ⟨fun h hh => ?_, fun s hs h1 => ?_, a3, by rw [hc]; exact a4⟩
  · obtain ⟨b1, b2, b3, b4, b5⟩ := a1 h hh
    obtain ⟨c1, c2⟩ := he _ b1
    obtain ⟨d1, d2⟩ := c2 b2
    exact ⟨by rw [hc]; exact b1, c1.mpr b2, d1.trans b3, d2.trans b4, b5⟩
  · rw [hc] at hs
    exact a2 s hs ((he s hs).1.mp h1)
/-- a key less -/
theorem zPlq.del {ks : List Nat} {val : Nat → Nat} {t : Nat} (hP : zPlq P (zPlan P) ks val) (ht : t ∈ ks) : zPlq P (zPlan1 P (val t)) (zDel t ks) val := by
  obtain ⟨a1, a2, a3, a4⟩ := hP
  refine ⟨fun h hh => ?_, fun s hs h1 => ?_, zDel_nodup a3, ?_⟩
  · obtain ⟨h1, h2⟩ := (zDel_mem a3).mp hh
    obtain ⟨b1, b2, b3, b4, b5⟩ := a1 h h1
    refine ⟨b1, ⟨b2, fun e => h2 ?_⟩, b3, b4, b5⟩
    obtain ⟨d1, d2, d3, d4, d5⟩ := a1 t ht
    rw [e] at b3 b4
    exact zTm_eq (by omega) (by omega) (b3.symm.trans d3) (b4.symm.trans d4)
  · obtain ⟨h, c1, c2⟩ := a2 s hs h1.1
    exact ⟨h, (zDel_mem a3).mpr ⟨c1, fun e => h1.2 (by rw [← c2, e])⟩, c2⟩
  · have := zDel_len ht
    omega
theorem zlsz {s : Nat} : lsT s o ≠ zC := fun e => by have e1 : 20010 + 2 * s = 0 := congrArg Prod.fst e; omega
theorem zlaz {s : Nat} : laT s o ≠ zC := fun e => by have e1 : 20011 + 2 * s = 0 := congrArg Prod.fst e; omega
theorem zlsa {s s' : Nat} : lsT s o ≠ laT s' o := fun e => by have e1 : 20010 + 2 * s = 20011 + 2 * s' := congrArg Prod.fst e; omega
theorem zTg.ko {s : Nat} {μ μ' : zM} (h : zKp (zTg (lsT s o) (laT s o)) μ μ') : zKp (zKo o) μ μ' := h.mono (fun a u q => by
  rcases q with q | q
  · subst q; exact ⟨rfl, by show 20000 ≤ 20010 + 2 * s; omega⟩
  · subst q; exact ⟨rfl, by show 20000 ≤ 20011 + 2 * s; omega⟩)
theorem zTg.no {s n a : Nat} (h1 : n ≠ 20010 + 2 * s) (h2 : n ≠ 20011 + 2 * s) : ¬ zTg (lsT s o) (laT s o) a (n, o) := fun q => by
  rcases q with q | q
  · exact h1 (congrArg Prod.fst q)
  · exact h2 (congrArg Prod.fst q)
/-- what plan leaves -/
def zPlP (G : zG) (μ : zM) (p o : Nat) (P : zP) (A : Nat → Nat → Nat) (c : Nat → Int32) (k t : Nat) : Option Value → zM → Prop := fun v μ' => v = some (.int (nI (pcn P 9))) ∧ (∃ x, zPR G μ' p o (tShowAdd P (nI (t / 6)) (nI (t % 6)) (nI k)) (zA1 A 3 (pcn P 9) x) (upd c 3 (c 3 + 1)) ∧ zPM G μ' o (tShowAdd P (nI (t / 6)) (nI (t % 6)) (nI k)) (zA1 A 3 (pcn P 9) x)) ∧ zKp (zOw o) μ μ'
theorem Cv0_plan {a k t w : Nat} (h : zPR G μ p o P A c) (hM : zPM G μ o P A) (hO : tOk P) (hB : tBkOk P) (hn : pcn P 9 < 60) (ha : zTim μ a t) (ht : t < 8192) (hfr : tFreeT P t) (hw : zWd P (zPlan P) w) (h1 : w ≤ t) (h2 : t < w + 512) : Meets G 10 MX1_plan [.ref p, .int (nI k), .ref a] μ (zPlP G μ p o P A c k t) 1135 (2 * pcn P 9 + 6575) := by
  obtain ⟨⟨ks, val, m1, hPl⟩, ks', val', m2, hEv⟩ := hM
  have htk : t ∉ ks := ((zFree_iff hO hPl hEv ht).mp hfr).1
  have hp := h.1
  have hLs := h.lsh
  obtain ⟨_, chLs⟩ := hLs.cell
  have hoz : obT 3 (pcn P 9) o ≠ zC := obT_nz
  have haz : oaT 3 (pcn P 9) o ≠ zC := oaT_nz
  obtain ⟨f1, c1⟩ := zHM.cell m1
  obtain ⟨N, hN⟩ : ∃ N, pcn P 9 = N := ⟨_, rfl⟩
  obtain ⟨n2, hn2⟩ : ∃ n2, 2 * pcn P 9 = n2 := ⟨_, rfl⟩
  obtain ⟨pc', hpc⟩ : ∃ x : Nat, x = 1132 := ⟨_, rfl⟩
  obtain ⟨ps', hps⟩ : ∃ x : Nat, x = 6550 := ⟨_, rfl⟩
  refine meets_of (by decide +kernel) (Nat.le_of_ble_eq_true rfl) ?_
  refine AW.bud (bc' := ((pc' + 1) + 1) + 1) (bs' := ((ps' + (2 * pcn P 9 + 10)) + 8) + 7) ?_ (by omega) (by omega)
  first | refine aw_aload_n (i := 0) (q := 1) dX1_plan_0 rfl rfl rfl ?_ | refine aw_aloadN_n (i := 0) (q := 1) dX1_plan_0 rfl rfl rfl ?_ | refine aw_aloadQ_n (i := 0) (q := 1) dX1_plan_0 rfl rfl rfl ?_
  refine aw_getfield (q := 4) dX1_plan_1 gf_X1_25_1 (by assumption) rfl rfl ?_
  first | refine aw_new (q := 7) dX1_plan_4 nw_X1_80 (obT 3 (pcn P 9) o) (by first | assumption | simp) rfl (fun x μ1 hn_x hg_μ1 => ?_) | (refine AW.sub (bc' := 1) (bs' := 7) (by omega) (by omega) ?_; refine aw_new (q := 7) dX1_plan_4 nw_X1_80 (obT 3 (pcn P 9) o) (by first | assumption | simp) rfl (fun x μ1 hn_x hg_μ1 => ?_))
  have chLs : μ1 _ = some _ := hg_μ1 ▸ (updM_ne (zneN chLs hn_x)).trans chLs
  have c1 : μ1 _ = some _ := hg_μ1 ▸ (updM_ne (zneN c1 hn_x)).trans c1
  have h_x : μ1 x = some _ := hg_μ1 ▸ updM_eq _ _ _
  sorry
theorem Cv1_plan {a k t w : Nat} (h : zPR G μ p o P A c) (hM : zPM G μ o P A) (hO : tOk P) (hB : tBkOk P) (hn : pcn P 9 < 60) (ha : zTim μ a t) (ht : t < 8192) (hfr : tFreeT P t) (hw : zWd P (zPlan P) w) (h1 : w ≤ t) (h2 : t < w + 512) : Meets G 10 MX1_plan [.ref p, .int (nI k), .ref a] μ (zPlP G μ p o P A c k t) 1135 (2 * pcn P 9 + 6575) := by
  obtain ⟨⟨ks, val, m1, hPl⟩, ks', val', m2, hEv⟩ := hM
  have htk : t ∉ ks := ((zFree_iff hO hPl hEv ht).mp hfr).1
  have hp := h.1
  have hLs := h.lsh
  obtain ⟨_, chLs⟩ := hLs.cell
  have hoz : obT 3 (pcn P 9) o ≠ zC := obT_nz
  have haz : oaT 3 (pcn P 9) o ≠ zC := oaT_nz
  obtain ⟨f1, c1⟩ := zHM.cell m1
  obtain ⟨N, hN⟩ : ∃ N, pcn P 9 = N := ⟨_, rfl⟩
  obtain ⟨n2, hn2⟩ : ∃ n2, 2 * pcn P 9 = n2 := ⟨_, rfl⟩
  obtain ⟨pc', hpc⟩ : ∃ x : Nat, x = 1132 := ⟨_, rfl⟩
  obtain ⟨ps', hps⟩ : ∃ x : Nat, x = 6550 := ⟨_, rfl⟩
  refine meets_of (by decide +kernel) (Nat.le_of_ble_eq_true rfl) ?_
  refine AW.bud (bc' := ((pc' + 1) + 1) + 1) (bs' := ((ps' + (2 * pcn P 9 + 10)) + 8) + 7) ?_ (by omega) (by omega)
  first | refine aw_aload_n (i := 0) (q := 1) dX1_plan_0 rfl rfl rfl ?_ | refine aw_aloadN_n (i := 0) (q := 1) dX1_plan_0 rfl rfl rfl ?_ | refine aw_aloadQ_n (i := 0) (q := 1) dX1_plan_0 rfl rfl rfl ?_
  refine aw_getfield (q := 4) dX1_plan_1 gf_X1_25_1 (by assumption) rfl rfl ?_
  first | refine aw_new (q := 7) dX1_plan_4 nw_X1_80 (obT 3 (pcn P 9) o) (by first | assumption | simp) rfl (fun x μ1 hn_x hg_μ1 => ?_) | (refine AW.sub (bc' := 1) (bs' := 7) (by omega) (by omega) ?_; refine aw_new (q := 7) dX1_plan_4 nw_X1_80 (obT 3 (pcn P 9) o) (by first | assumption | simp) rfl (fun x μ1 hn_x hg_μ1 => ?_))
  have chLs : μ1 _ = some _ := hg_μ1 ▸ (updM_ne (zneN chLs hn_x)).trans chLs
  have c1 : μ1 _ = some _ := hg_μ1 ▸ (updM_ne (zneN c1 hn_x)).trans c1
  have h_x : μ1 x = some _ := hg_μ1 ▸ updM_eq _ _ _
  have hk1 : zKp zF μ μ1 := hg_μ1 ▸ zKp.new hn_x
  refine aw_dup (q := 8) dX1_plan_7 (by first | rfl | exact zcat_rf _) rfl ?_
  refine aw_iload_n (i := 1) (q := 9) dX1_plan_8 rfl rfl rfl ?_
  first | refine aw_aload_n (i := 2) (q := 10) dX1_plan_9 rfl rfl rfl ?_ | refine aw_aloadN_n (i := 2) (q := 10) dX1_plan_9 rfl rfl rfl ?_ | refine aw_aloadQ_n (i := 2) (q := 10) dX1_plan_9 rfl rfl rfl ?_
  refine aw_callI (q := 13) dX1_plan_10 (C_Show_init2 (uf := oaT 3 (pcn P 9) o) h_x hoz haz) ci_X1_221 rfl rfl (by decide) (by decide) (by first | exact Nat.le_of_ble_eq_true rfl | simp [zcat_rf, Value.category]) rfl (fun v10 μ2 hp => ?_)
  obtain ⟨rfl, fr, f', q1, q2, q3, q4, q5⟩ := hp
  sorry
theorem Cv2_plan {a k t w : Nat} (h : zPR G μ p o P A c) (hM : zPM G μ o P A) (hO : tOk P) (hB : tBkOk P) (hn : pcn P 9 < 60) (ha : zTim μ a t) (ht : t < 8192) (hfr : tFreeT P t) (hw : zWd P (zPlan P) w) (h1 : w ≤ t) (h2 : t < w + 512) : Meets G 10 MX1_plan [.ref p, .int (nI k), .ref a] μ (zPlP G μ p o P A c k t) 1135 (2 * pcn P 9 + 6575) := by
  obtain ⟨⟨ks, val, m1, hPl⟩, ks', val', m2, hEv⟩ := hM
  have htk : t ∉ ks := ((zFree_iff hO hPl hEv ht).mp hfr).1
  have hp := h.1
  have hLs := h.lsh
  obtain ⟨_, chLs⟩ := hLs.cell
  have hoz : obT 3 (pcn P 9) o ≠ zC := obT_nz
  have haz : oaT 3 (pcn P 9) o ≠ zC := oaT_nz
  obtain ⟨f1, c1⟩ := zHM.cell m1
  obtain ⟨N, hN⟩ : ∃ N, pcn P 9 = N := ⟨_, rfl⟩
  obtain ⟨n2, hn2⟩ : ∃ n2, 2 * pcn P 9 = n2 := ⟨_, rfl⟩
  obtain ⟨pc', hpc⟩ : ∃ x : Nat, x = 1132 := ⟨_, rfl⟩
  obtain ⟨ps', hps⟩ : ∃ x : Nat, x = 6550 := ⟨_, rfl⟩
  refine meets_of (by decide +kernel) (Nat.le_of_ble_eq_true rfl) ?_
  refine AW.bud (bc' := ((pc' + 1) + 1) + 1) (bs' := ((ps' + (2 * pcn P 9 + 10)) + 8) + 7) ?_ (by omega) (by omega)
  first | refine aw_aload_n (i := 0) (q := 1) dX1_plan_0 rfl rfl rfl ?_ | refine aw_aloadN_n (i := 0) (q := 1) dX1_plan_0 rfl rfl rfl ?_ | refine aw_aloadQ_n (i := 0) (q := 1) dX1_plan_0 rfl rfl rfl ?_
  refine aw_getfield (q := 4) dX1_plan_1 gf_X1_25_1 (by assumption) rfl rfl ?_
  first | refine aw_new (q := 7) dX1_plan_4 nw_X1_80 (obT 3 (pcn P 9) o) (by first | assumption | simp) rfl (fun x μ1 hn_x hg_μ1 => ?_) | (refine AW.sub (bc' := 1) (bs' := 7) (by omega) (by omega) ?_; refine aw_new (q := 7) dX1_plan_4 nw_X1_80 (obT 3 (pcn P 9) o) (by first | assumption | simp) rfl (fun x μ1 hn_x hg_μ1 => ?_))
  have chLs : μ1 _ = some _ := hg_μ1 ▸ (updM_ne (zneN chLs hn_x)).trans chLs
  have c1 : μ1 _ = some _ := hg_μ1 ▸ (updM_ne (zneN c1 hn_x)).trans c1
  have h_x : μ1 x = some _ := hg_μ1 ▸ updM_eq _ _ _
  have hk1 : zKp zF μ μ1 := hg_μ1 ▸ zKp.new hn_x
  refine aw_dup (q := 8) dX1_plan_7 (by first | rfl | exact zcat_rf _) rfl ?_
  refine aw_iload_n (i := 1) (q := 9) dX1_plan_8 rfl rfl rfl ?_
  first | refine aw_aload_n (i := 2) (q := 10) dX1_plan_9 rfl rfl rfl ?_ | refine aw_aloadN_n (i := 2) (q := 10) dX1_plan_9 rfl rfl rfl ?_ | refine aw_aloadQ_n (i := 2) (q := 10) dX1_plan_9 rfl rfl rfl ?_
  refine aw_callI (q := 13) dX1_plan_10 (C_Show_init2 (uf := oaT 3 (pcn P 9) o) h_x hoz haz) ci_X1_221 rfl rfl (by decide) (by decide) (by first | exact Nat.le_of_ble_eq_true rfl | simp [zcat_rf, Value.category]) rfl (fun v10 μ2 hp => ?_)
  obtain ⟨rfl, fr, f', q1, q2, q3, q4, q5⟩ := hp
  have hk2 : zKp zF μ μ2 := fun b u e hb _ => q5 b u e (hk1 b u e hb (fun z => z)) (zneN hb hn_x)
  have hL2 := hLs.kp hk2 (fun _ z => z) (fun _ z => z)
  obtain ⟨_, chL2⟩ := hL2.cell
  have hel : ∀ i, i < pcn P 9 → zOb μ2 (A 3 i) := fun i hi => by
    obtain ⟨ti, ri, fi, hi1, -⟩ := h.sh hi
    exact ⟨_, _, _, hk2 _ _ _ hi1 (fun z => z), ca5O⟩
  refine aw_callF (q := 18) dX1_plan_13 (C_AL_add hL2 ⟨_, _, _, q2, ca5O⟩ zlsz zlaz zlsa (by omega) hel) cf_X1_71_14 (by assumption) rfl rfl (by decide) (by decide) (by first | exact Nat.le_of_ble_eq_true rfl | simp [zcat_rf, Value.category]) rfl (fun v13 μ3 hp => ?_)
  obtain ⟨rfl, hL3, k3⟩ := hp
  sorry
theorem Cv3_plan {a k t w : Nat} (h : zPR G μ p o P A c) (hM : zPM G μ o P A) (hO : tOk P) (hB : tBkOk P) (hn : pcn P 9 < 60) (ha : zTim μ a t) (ht : t < 8192) (hfr : tFreeT P t) (hw : zWd P (zPlan P) w) (h1 : w ≤ t) (h2 : t < w + 512) : Meets G 10 MX1_plan [.ref p, .int (nI k), .ref a] μ (zPlP G μ p o P A c k t) 1135 (2 * pcn P 9 + 6575) := by
  obtain ⟨⟨ks, val, m1, hPl⟩, ks', val', m2, hEv⟩ := hM
  have htk : t ∉ ks := ((zFree_iff hO hPl hEv ht).mp hfr).1
  have hp := h.1
  have hLs := h.lsh
  obtain ⟨_, chLs⟩ := hLs.cell
  have hoz : obT 3 (pcn P 9) o ≠ zC := obT_nz
  have haz : oaT 3 (pcn P 9) o ≠ zC := oaT_nz
  obtain ⟨f1, c1⟩ := zHM.cell m1
  obtain ⟨N, hN⟩ : ∃ N, pcn P 9 = N := ⟨_, rfl⟩
  obtain ⟨n2, hn2⟩ : ∃ n2, 2 * pcn P 9 = n2 := ⟨_, rfl⟩
  obtain ⟨pc', hpc⟩ : ∃ x : Nat, x = 1132 := ⟨_, rfl⟩
  obtain ⟨ps', hps⟩ : ∃ x : Nat, x = 6550 := ⟨_, rfl⟩
  refine meets_of (by decide +kernel) (Nat.le_of_ble_eq_true rfl) ?_
  refine AW.bud (bc' := ((pc' + 1) + 1) + 1) (bs' := ((ps' + (2 * pcn P 9 + 10)) + 8) + 7) ?_ (by omega) (by omega)
  first | refine aw_aload_n (i := 0) (q := 1) dX1_plan_0 rfl rfl rfl ?_ | refine aw_aloadN_n (i := 0) (q := 1) dX1_plan_0 rfl rfl rfl ?_ | refine aw_aloadQ_n (i := 0) (q := 1) dX1_plan_0 rfl rfl rfl ?_
  refine aw_getfield (q := 4) dX1_plan_1 gf_X1_25_1 (by assumption) rfl rfl ?_
  first | refine aw_new (q := 7) dX1_plan_4 nw_X1_80 (obT 3 (pcn P 9) o) (by first | assumption | simp) rfl (fun x μ1 hn_x hg_μ1 => ?_) | (refine AW.sub (bc' := 1) (bs' := 7) (by omega) (by omega) ?_; refine aw_new (q := 7) dX1_plan_4 nw_X1_80 (obT 3 (pcn P 9) o) (by first | assumption | simp) rfl (fun x μ1 hn_x hg_μ1 => ?_))
  have chLs : μ1 _ = some _ := hg_μ1 ▸ (updM_ne (zneN chLs hn_x)).trans chLs
  have c1 : μ1 _ = some _ := hg_μ1 ▸ (updM_ne (zneN c1 hn_x)).trans c1
  have h_x : μ1 x = some _ := hg_μ1 ▸ updM_eq _ _ _
  have hk1 : zKp zF μ μ1 := hg_μ1 ▸ zKp.new hn_x
  refine aw_dup (q := 8) dX1_plan_7 (by first | rfl | exact zcat_rf _) rfl ?_
  refine aw_iload_n (i := 1) (q := 9) dX1_plan_8 rfl rfl rfl ?_
  first | refine aw_aload_n (i := 2) (q := 10) dX1_plan_9 rfl rfl rfl ?_ | refine aw_aloadN_n (i := 2) (q := 10) dX1_plan_9 rfl rfl rfl ?_ | refine aw_aloadQ_n (i := 2) (q := 10) dX1_plan_9 rfl rfl rfl ?_
  refine aw_callI (q := 13) dX1_plan_10 (C_Show_init2 (uf := oaT 3 (pcn P 9) o) h_x hoz haz) ci_X1_221 rfl rfl (by decide) (by decide) (by first | exact Nat.le_of_ble_eq_true rfl | simp [zcat_rf, Value.category]) rfl (fun v10 μ2 hp => ?_)
  obtain ⟨rfl, fr, f', q1, q2, q3, q4, q5⟩ := hp
  have hk2 : zKp zF μ μ2 := fun b u e hb _ => q5 b u e (hk1 b u e hb (fun z => z)) (zneN hb hn_x)
  have hL2 := hLs.kp hk2 (fun _ z => z) (fun _ z => z)
  obtain ⟨_, chL2⟩ := hL2.cell
  have hel : ∀ i, i < pcn P 9 → zOb μ2 (A 3 i) := fun i hi => by
    obtain ⟨ti, ri, fi, hi1, -⟩ := h.sh hi
    exact ⟨_, _, _, hk2 _ _ _ hi1 (fun z => z), ca5O⟩
  refine aw_callF (q := 18) dX1_plan_13 (C_AL_add hL2 ⟨_, _, _, q2, ca5O⟩ zlsz zlaz zlsa (by omega) hel) cf_X1_71_14 (by assumption) rfl rfl (by decide) (by decide) (by first | exact Nat.le_of_ble_eq_true rfl | simp [zcat_rf, Value.category]) rfl (fun v13 μ3 hp => ?_)
  obtain ⟨rfl, hL3, k3⟩ := hp
  obtain ⟨_, chL3⟩ := hL3.cell
  have hk3 : zKp (zTg (lsT 3 o) (laT 3 o)) μ μ3 := hk2.f0.tr k3
  have hp3 : μ3 p = some (pgT 0 o, oPG A c P) := hk3 _ _ _ hp (zTg.no (by omega) (by omega))
  have ec : ∀ s j, ¬ (s = 3 ∧ j = pcn P 9) → s ≠ 0 → ∀ i, tShowAdd P (nI (t / 6)) (nI (t % 6)) (nI k) s j i = P s j i := fun s j n1 n2 i => tShowAdd_o ⟨n1, by omega⟩
  have hdone : zPR G μ3 p o (tShowAdd P (nI (t / 6)) (nI (t % 6)) (nI k)) (zA1 A 3 (pcn P 9) x) (upd c 3 (c 3 + 1)) := by
    refine h.add (s0 := 3) (B := fun _ _ => False) hO (Or.inr (Or.inr (Or.inl rfl))) hk3 (fun b u q => Or.inl q) (fun j hj => tShowAdd_o ⟨by omega, by omega⟩) (tShowAdd_cn (by omega)) hL3 ?_ (fun s i _ _ q => q.elim) ?_
    · refine ⟨a, fr, f', ?_, ?_, k3 _ _ _ q3 (zTg.no (by omega) (by omega)), fun j hj => ?_⟩
      · show μ3 x = some (obT 3 (pcn P 9) o, oSh (tShowAdd P (nI (t / 6)) (nI (t % 6)) (nI k) 3 (pcn P 9) 0) a (tShowAdd P (nI (t / 6)) (nI (t % 6)) (nI k) 3 (pcn P 9) 3) (tShowAdd P (nI (t / 6)) (nI (t % 6)) (nI k) 3 (pcn P 9) 4) (tShowAdd P (nI (t / 6)) (nI (t % 6)) (nI k) 3 (pcn P 9) 5) (tShowAdd P (nI (t / 6)) (nI (t % 6)) (nI k) 3 (pcn P 9) 6) fr)
        rw [tShowAdd_n (by decide), tShowAdd_n (by decide), tShowAdd_n (by decide), tShowAdd_n (by decide), tShowAdd_n (by decide)]
        exact k3 _ _ _ q2 (zTg.no (by omega) (by omega))
      · show μ3 a = some ((0, 0), oTime (tShowAdd P (nI (t / 6)) (nI (t % 6)) (nI k) 3 (pcn P 9) 1) (tShowAdd P (nI (t / 6)) (nI (t % 6)) (nI k) 3 (pcn P 9) 2))
        rw [tShowAdd_n (by decide), tShowAdd_n (by decide)]
        refine hk3 _ _ _ ha ?_
        rintro (q | q)
        · have e1 : 0 = 20010 + 2 * 3 := congrArg Prod.fst q
          omega
        · have e1 : 0 = 20011 + 2 * 3 := congrArg Prod.fst q
          omega
      · rw [q4 j hj]
        show 12 = tFreeIn _ (nI (pcn P 9)) j
        unfold tFreeIn
        rw [tShowAdd_co (by decide)]
        refine (tFreeInF_none _ (fun b hb e => ?_)).symm
        obtain ⟨b1, b2⟩ := hB b hb
        rw [ec 4 b (by omega) (by decide), b1] at e
        have := (nI_eq (by omega) (by omega)).mp e
        omega
    · intro s i hs hi _
      have sl := hs.lt
      refine zSm.of (fun j hj => ec s i (fun z => ?_) (by omega) j) (tShowAdd_o ⟨by omega, by omega⟩) (fun b j => ec 4 b (by omega) (by decide) j)
      obtain ⟨z1, z2⟩ := z
      subst z1
      have hi : i < pcn P 9 := hi
      omega
  have m1c : zMap1 G μ3 o A ks val := zHM.ko (zHM.fr m1 hk2) (zTg.ko k3) (by omega) (by omega)
  have m2c : zMap2 G μ3 o A ks' val' := zHM.ko (zHM.fr m2 hk2) (zTg.ko k3) (by omega) (by omega)
  obtain ⟨f3, c3⟩ := zHM.cell m1c
  obtain ⟨k0, hk08, hmk⟩ := zHM.rank m1c
  have ha3 : zTim μ3 a t := by
    refine hk3 _ _ _ ha ?_
    rintro (q | q)
    · have e1 : 0 = 20010 + 2 * 3 := congrArg Prod.fst q
      omega
    · have e1 : 0 = 20011 + 2 * 3 := congrArg Prod.fst q
      omega
  have hlen := hPl.2.2.2
  obtain ⟨k1, g1, g2, hput⟩ := C_HM_put (w := pcn P 9) hmk (by omega) htk ht ha3 (hw.win hPl h1 h2) (by omega)
  refine aw_pop (q := 19) dX1_plan_18 (by first | rfl | exact zcat_rf _) rfl ?_
  first | refine aw_aload_n (i := 0) (q := 20) dX1_plan_19 rfl rfl rfl ?_ | refine aw_aloadN_n (i := 0) (q := 20) dX1_plan_19 rfl rfl rfl ?_ | refine aw_aloadQ_n (i := 0) (q := 20) dX1_plan_19 rfl rfl rfl ?_
  refine aw_getfield (q := 23) dX1_plan_20 gf_X1_37_1 (by assumption) rfl rfl ?_
  first | refine aw_aload_n (i := 2) (q := 24) dX1_plan_23 rfl rfl rfl ?_ | refine aw_aloadN_n (i := 2) (q := 24) dX1_plan_23 rfl rfl rfl ?_ | refine aw_aloadQ_n (i := 2) (q := 24) dX1_plan_23 rfl rfl rfl ?_
  first | refine aw_aload_n (i := 0) (q := 25) dX1_plan_24 rfl rfl rfl ?_ | refine aw_aloadN_n (i := 0) (q := 25) dX1_plan_24 rfl rfl rfl ?_ | refine aw_aloadQ_n (i := 0) (q := 25) dX1_plan_24 rfl rfl rfl ?_
  refine aw_getfield (q := 28) dX1_plan_25 gf_X1_25_1 (by assumption) rfl rfl ?_
  refine aw_z ?_
  refine aw_callF (q := 33) dX1_plan_28 (C_AL_size hL3) cf_X1_111_14 (by assumption) rfl rfl (by decide) (by decide) (by first | exact Nat.le_of_ble_eq_true rfl | simp [zcat_rf, Value.category]) rfl (zpk ?_)
  sorry
theorem Cv4_plan {a k t w : Nat} (h : zPR G μ p o P A c) (hM : zPM G μ o P A) (hO : tOk P) (hB : tBkOk P) (hn : pcn P 9 < 60) (ha : zTim μ a t) (ht : t < 8192) (hfr : tFreeT P t) (hw : zWd P (zPlan P) w) (h1 : w ≤ t) (h2 : t < w + 512) : Meets G 10 MX1_plan [.ref p, .int (nI k), .ref a] μ (zPlP G μ p o P A c k t) 1135 (2 * pcn P 9 + 6575) := by
  obtain ⟨⟨ks, val, m1, hPl⟩, ks', val', m2, hEv⟩ := hM
  have htk : t ∉ ks := ((zFree_iff hO hPl hEv ht).mp hfr).1
  have hp := h.1
  have hLs := h.lsh
  obtain ⟨_, chLs⟩ := hLs.cell
  have hoz : obT 3 (pcn P 9) o ≠ zC := obT_nz
  have haz : oaT 3 (pcn P 9) o ≠ zC := oaT_nz
  obtain ⟨f1, c1⟩ := zHM.cell m1
  obtain ⟨N, hN⟩ : ∃ N, pcn P 9 = N := ⟨_, rfl⟩
  obtain ⟨n2, hn2⟩ : ∃ n2, 2 * pcn P 9 = n2 := ⟨_, rfl⟩
  obtain ⟨pc', hpc⟩ : ∃ x : Nat, x = 1132 := ⟨_, rfl⟩
  obtain ⟨ps', hps⟩ : ∃ x : Nat, x = 6550 := ⟨_, rfl⟩
  refine meets_of (by decide +kernel) (Nat.le_of_ble_eq_true rfl) ?_
  refine AW.bud (bc' := ((pc' + 1) + 1) + 1) (bs' := ((ps' + (2 * pcn P 9 + 10)) + 8) + 7) ?_ (by omega) (by omega)
  first | refine aw_aload_n (i := 0) (q := 1) dX1_plan_0 rfl rfl rfl ?_ | refine aw_aloadN_n (i := 0) (q := 1) dX1_plan_0 rfl rfl rfl ?_ | refine aw_aloadQ_n (i := 0) (q := 1) dX1_plan_0 rfl rfl rfl ?_
  refine aw_getfield (q := 4) dX1_plan_1 gf_X1_25_1 (by assumption) rfl rfl ?_
  first | refine aw_new (q := 7) dX1_plan_4 nw_X1_80 (obT 3 (pcn P 9) o) (by first | assumption | simp) rfl (fun x μ1 hn_x hg_μ1 => ?_) | (refine AW.sub (bc' := 1) (bs' := 7) (by omega) (by omega) ?_; refine aw_new (q := 7) dX1_plan_4 nw_X1_80 (obT 3 (pcn P 9) o) (by first | assumption | simp) rfl (fun x μ1 hn_x hg_μ1 => ?_))
  have chLs : μ1 _ = some _ := hg_μ1 ▸ (updM_ne (zneN chLs hn_x)).trans chLs
  have c1 : μ1 _ = some _ := hg_μ1 ▸ (updM_ne (zneN c1 hn_x)).trans c1
  have h_x : μ1 x = some _ := hg_μ1 ▸ updM_eq _ _ _
  have hk1 : zKp zF μ μ1 := hg_μ1 ▸ zKp.new hn_x
  refine aw_dup (q := 8) dX1_plan_7 (by first | rfl | exact zcat_rf _) rfl ?_
  refine aw_iload_n (i := 1) (q := 9) dX1_plan_8 rfl rfl rfl ?_
  first | refine aw_aload_n (i := 2) (q := 10) dX1_plan_9 rfl rfl rfl ?_ | refine aw_aloadN_n (i := 2) (q := 10) dX1_plan_9 rfl rfl rfl ?_ | refine aw_aloadQ_n (i := 2) (q := 10) dX1_plan_9 rfl rfl rfl ?_
  refine aw_callI (q := 13) dX1_plan_10 (C_Show_init2 (uf := oaT 3 (pcn P 9) o) h_x hoz haz) ci_X1_221 rfl rfl (by decide) (by decide) (by first | exact Nat.le_of_ble_eq_true rfl | simp [zcat_rf, Value.category]) rfl (fun v10 μ2 hp => ?_)
  obtain ⟨rfl, fr, f', q1, q2, q3, q4, q5⟩ := hp
  have hk2 : zKp zF μ μ2 := fun b u e hb _ => q5 b u e (hk1 b u e hb (fun z => z)) (zneN hb hn_x)
  have hL2 := hLs.kp hk2 (fun _ z => z) (fun _ z => z)
  obtain ⟨_, chL2⟩ := hL2.cell
  have hel : ∀ i, i < pcn P 9 → zOb μ2 (A 3 i) := fun i hi => by
    obtain ⟨ti, ri, fi, hi1, -⟩ := h.sh hi
    exact ⟨_, _, _, hk2 _ _ _ hi1 (fun z => z), ca5O⟩
  refine aw_callF (q := 18) dX1_plan_13 (C_AL_add hL2 ⟨_, _, _, q2, ca5O⟩ zlsz zlaz zlsa (by omega) hel) cf_X1_71_14 (by assumption) rfl rfl (by decide) (by decide) (by first | exact Nat.le_of_ble_eq_true rfl | simp [zcat_rf, Value.category]) rfl (fun v13 μ3 hp => ?_)
  obtain ⟨rfl, hL3, k3⟩ := hp
  obtain ⟨_, chL3⟩ := hL3.cell
  have hk3 : zKp (zTg (lsT 3 o) (laT 3 o)) μ μ3 := hk2.f0.tr k3
  have hp3 : μ3 p = some (pgT 0 o, oPG A c P) := hk3 _ _ _ hp (zTg.no (by omega) (by omega))
  have ec : ∀ s j, ¬ (s = 3 ∧ j = pcn P 9) → s ≠ 0 → ∀ i, tShowAdd P (nI (t / 6)) (nI (t % 6)) (nI k) s j i = P s j i := fun s j n1 n2 i => tShowAdd_o ⟨n1, by omega⟩
  have hdone : zPR G μ3 p o (tShowAdd P (nI (t / 6)) (nI (t % 6)) (nI k)) (zA1 A 3 (pcn P 9) x) (upd c 3 (c 3 + 1)) := by
    refine h.add (s0 := 3) (B := fun _ _ => False) hO (Or.inr (Or.inr (Or.inl rfl))) hk3 (fun b u q => Or.inl q) (fun j hj => tShowAdd_o ⟨by omega, by omega⟩) (tShowAdd_cn (by omega)) hL3 ?_ (fun s i _ _ q => q.elim) ?_
    · refine ⟨a, fr, f', ?_, ?_, k3 _ _ _ q3 (zTg.no (by omega) (by omega)), fun j hj => ?_⟩
      · show μ3 x = some (obT 3 (pcn P 9) o, oSh (tShowAdd P (nI (t / 6)) (nI (t % 6)) (nI k) 3 (pcn P 9) 0) a (tShowAdd P (nI (t / 6)) (nI (t % 6)) (nI k) 3 (pcn P 9) 3) (tShowAdd P (nI (t / 6)) (nI (t % 6)) (nI k) 3 (pcn P 9) 4) (tShowAdd P (nI (t / 6)) (nI (t % 6)) (nI k) 3 (pcn P 9) 5) (tShowAdd P (nI (t / 6)) (nI (t % 6)) (nI k) 3 (pcn P 9) 6) fr)
        rw [tShowAdd_n (by decide), tShowAdd_n (by decide), tShowAdd_n (by decide), tShowAdd_n (by decide), tShowAdd_n (by decide)]
        exact k3 _ _ _ q2 (zTg.no (by omega) (by omega))
      · show μ3 a = some ((0, 0), oTime (tShowAdd P (nI (t / 6)) (nI (t % 6)) (nI k) 3 (pcn P 9) 1) (tShowAdd P (nI (t / 6)) (nI (t % 6)) (nI k) 3 (pcn P 9) 2))
        rw [tShowAdd_n (by decide), tShowAdd_n (by decide)]
        refine hk3 _ _ _ ha ?_
        rintro (q | q)
        · have e1 : 0 = 20010 + 2 * 3 := congrArg Prod.fst q
          omega
        · have e1 : 0 = 20011 + 2 * 3 := congrArg Prod.fst q
          omega
      · rw [q4 j hj]
        show 12 = tFreeIn _ (nI (pcn P 9)) j
        unfold tFreeIn
        rw [tShowAdd_co (by decide)]
        refine (tFreeInF_none _ (fun b hb e => ?_)).symm
        obtain ⟨b1, b2⟩ := hB b hb
        rw [ec 4 b (by omega) (by decide), b1] at e
        have := (nI_eq (by omega) (by omega)).mp e
        omega
    · intro s i hs hi _
      have sl := hs.lt
      refine zSm.of (fun j hj => ec s i (fun z => ?_) (by omega) j) (tShowAdd_o ⟨by omega, by omega⟩) (fun b j => ec 4 b (by omega) (by decide) j)
      obtain ⟨z1, z2⟩ := z
      subst z1
      have hi : i < pcn P 9 := hi
      omega
  have m1c : zMap1 G μ3 o A ks val := zHM.ko (zHM.fr m1 hk2) (zTg.ko k3) (by omega) (by omega)
  have m2c : zMap2 G μ3 o A ks' val' := zHM.ko (zHM.fr m2 hk2) (zTg.ko k3) (by omega) (by omega)
  obtain ⟨f3, c3⟩ := zHM.cell m1c
  obtain ⟨k0, hk08, hmk⟩ := zHM.rank m1c
  have ha3 : zTim μ3 a t := by
    refine hk3 _ _ _ ha ?_
    rintro (q | q)
    · have e1 : 0 = 20010 + 2 * 3 := congrArg Prod.fst q
      omega
    · have e1 : 0 = 20011 + 2 * 3 := congrArg Prod.fst q
      omega
  have hlen := hPl.2.2.2
  obtain ⟨k1, g1, g2, hput⟩ := C_HM_put (w := pcn P 9) hmk (by omega) htk ht ha3 (hw.win hPl h1 h2) (by omega)
  refine aw_pop (q := 19) dX1_plan_18 (by first | rfl | exact zcat_rf _) rfl ?_
  first | refine aw_aload_n (i := 0) (q := 20) dX1_plan_19 rfl rfl rfl ?_ | refine aw_aloadN_n (i := 0) (q := 20) dX1_plan_19 rfl rfl rfl ?_ | refine aw_aloadQ_n (i := 0) (q := 20) dX1_plan_19 rfl rfl rfl ?_
  refine aw_getfield (q := 23) dX1_plan_20 gf_X1_37_1 (by assumption) rfl rfl ?_
  first | refine aw_aload_n (i := 2) (q := 24) dX1_plan_23 rfl rfl rfl ?_ | refine aw_aloadN_n (i := 2) (q := 24) dX1_plan_23 rfl rfl rfl ?_ | refine aw_aloadQ_n (i := 2) (q := 24) dX1_plan_23 rfl rfl rfl ?_
  first | refine aw_aload_n (i := 0) (q := 25) dX1_plan_24 rfl rfl rfl ?_ | refine aw_aloadN_n (i := 0) (q := 25) dX1_plan_24 rfl rfl rfl ?_ | refine aw_aloadQ_n (i := 0) (q := 25) dX1_plan_24 rfl rfl rfl ?_
  refine aw_getfield (q := 28) dX1_plan_25 gf_X1_25_1 (by assumption) rfl rfl ?_
  refine aw_z ?_
  refine aw_callF (q := 33) dX1_plan_28 (C_AL_size hL3) cf_X1_111_14 (by assumption) rfl rfl (by decide) (by decide) (by first | exact Nat.le_of_ble_eq_true rfl | simp [zcat_rf, Value.category]) rfl (zpk ?_)
  refine aw_iconst (v := 1) (q := 34) dX1_plan_33 rfl rfl ?_
  refine aw_isub (q := 35) dX1_plan_34 rfl ?_
  rw [nI_pred]
  refine aw_z ?_
  refine aw_callS (q := 38) dX1_plan_35 (C_valueOf (k := pcn P 9) (by omega)) cs_X1_224 rfl rfl (by decide) (by decide) (by first | exact Nat.le_of_ble_eq_true rfl | simp [zcat_rf, Value.category]) rfl (zpk ?_)
  sorry
theorem Cv5_plan {a k t w : Nat} (h : zPR G μ p o P A c) (hM : zPM G μ o P A) (hO : tOk P) (hB : tBkOk P) (hn : pcn P 9 < 60) (ha : zTim μ a t) (ht : t < 8192) (hfr : tFreeT P t) (hw : zWd P (zPlan P) w) (h1 : w ≤ t) (h2 : t < w + 512) : Meets G 10 MX1_plan [.ref p, .int (nI k), .ref a] μ (zPlP G μ p o P A c k t) 1135 (2 * pcn P 9 + 6575) := by
  obtain ⟨⟨ks, val, m1, hPl⟩, ks', val', m2, hEv⟩ := hM
  have htk : t ∉ ks := ((zFree_iff hO hPl hEv ht).mp hfr).1
  have hp := h.1
  have hLs := h.lsh
  obtain ⟨_, chLs⟩ := hLs.cell
  have hoz : obT 3 (pcn P 9) o ≠ zC := obT_nz
  have haz : oaT 3 (pcn P 9) o ≠ zC := oaT_nz
  obtain ⟨f1, c1⟩ := zHM.cell m1
  obtain ⟨N, hN⟩ : ∃ N, pcn P 9 = N := ⟨_, rfl⟩
  obtain ⟨n2, hn2⟩ : ∃ n2, 2 * pcn P 9 = n2 := ⟨_, rfl⟩
  obtain ⟨pc', hpc⟩ : ∃ x : Nat, x = 1132 := ⟨_, rfl⟩
  obtain ⟨ps', hps⟩ : ∃ x : Nat, x = 6550 := ⟨_, rfl⟩
  refine meets_of (by decide +kernel) (Nat.le_of_ble_eq_true rfl) ?_
  refine AW.bud (bc' := ((pc' + 1) + 1) + 1) (bs' := ((ps' + (2 * pcn P 9 + 10)) + 8) + 7) ?_ (by omega) (by omega)
  first | refine aw_aload_n (i := 0) (q := 1) dX1_plan_0 rfl rfl rfl ?_ | refine aw_aloadN_n (i := 0) (q := 1) dX1_plan_0 rfl rfl rfl ?_ | refine aw_aloadQ_n (i := 0) (q := 1) dX1_plan_0 rfl rfl rfl ?_
  refine aw_getfield (q := 4) dX1_plan_1 gf_X1_25_1 (by assumption) rfl rfl ?_
  first | refine aw_new (q := 7) dX1_plan_4 nw_X1_80 (obT 3 (pcn P 9) o) (by first | assumption | simp) rfl (fun x μ1 hn_x hg_μ1 => ?_) | (refine AW.sub (bc' := 1) (bs' := 7) (by omega) (by omega) ?_; refine aw_new (q := 7) dX1_plan_4 nw_X1_80 (obT 3 (pcn P 9) o) (by first | assumption | simp) rfl (fun x μ1 hn_x hg_μ1 => ?_))
  have chLs : μ1 _ = some _ := hg_μ1 ▸ (updM_ne (zneN chLs hn_x)).trans chLs
  have c1 : μ1 _ = some _ := hg_μ1 ▸ (updM_ne (zneN c1 hn_x)).trans c1
  have h_x : μ1 x = some _ := hg_μ1 ▸ updM_eq _ _ _
  have hk1 : zKp zF μ μ1 := hg_μ1 ▸ zKp.new hn_x
  refine aw_dup (q := 8) dX1_plan_7 (by first | rfl | exact zcat_rf _) rfl ?_
  refine aw_iload_n (i := 1) (q := 9) dX1_plan_8 rfl rfl rfl ?_
  first | refine aw_aload_n (i := 2) (q := 10) dX1_plan_9 rfl rfl rfl ?_ | refine aw_aloadN_n (i := 2) (q := 10) dX1_plan_9 rfl rfl rfl ?_ | refine aw_aloadQ_n (i := 2) (q := 10) dX1_plan_9 rfl rfl rfl ?_
  refine aw_callI (q := 13) dX1_plan_10 (C_Show_init2 (uf := oaT 3 (pcn P 9) o) h_x hoz haz) ci_X1_221 rfl rfl (by decide) (by decide) (by first | exact Nat.le_of_ble_eq_true rfl | simp [zcat_rf, Value.category]) rfl (fun v10 μ2 hp => ?_)
  obtain ⟨rfl, fr, f', q1, q2, q3, q4, q5⟩ := hp
  have hk2 : zKp zF μ μ2 := fun b u e hb _ => q5 b u e (hk1 b u e hb (fun z => z)) (zneN hb hn_x)
  have hL2 := hLs.kp hk2 (fun _ z => z) (fun _ z => z)
  obtain ⟨_, chL2⟩ := hL2.cell
  have hel : ∀ i, i < pcn P 9 → zOb μ2 (A 3 i) := fun i hi => by
    obtain ⟨ti, ri, fi, hi1, -⟩ := h.sh hi
    exact ⟨_, _, _, hk2 _ _ _ hi1 (fun z => z), ca5O⟩
  refine aw_callF (q := 18) dX1_plan_13 (C_AL_add hL2 ⟨_, _, _, q2, ca5O⟩ zlsz zlaz zlsa (by omega) hel) cf_X1_71_14 (by assumption) rfl rfl (by decide) (by decide) (by first | exact Nat.le_of_ble_eq_true rfl | simp [zcat_rf, Value.category]) rfl (fun v13 μ3 hp => ?_)
  obtain ⟨rfl, hL3, k3⟩ := hp
  obtain ⟨_, chL3⟩ := hL3.cell
  have hk3 : zKp (zTg (lsT 3 o) (laT 3 o)) μ μ3 := hk2.f0.tr k3
  have hp3 : μ3 p = some (pgT 0 o, oPG A c P) := hk3 _ _ _ hp (zTg.no (by omega) (by omega))
  have ec : ∀ s j, ¬ (s = 3 ∧ j = pcn P 9) → s ≠ 0 → ∀ i, tShowAdd P (nI (t / 6)) (nI (t % 6)) (nI k) s j i = P s j i := fun s j n1 n2 i => tShowAdd_o ⟨n1, by omega⟩
  have hdone : zPR G μ3 p o (tShowAdd P (nI (t / 6)) (nI (t % 6)) (nI k)) (zA1 A 3 (pcn P 9) x) (upd c 3 (c 3 + 1)) := by
    refine h.add (s0 := 3) (B := fun _ _ => False) hO (Or.inr (Or.inr (Or.inl rfl))) hk3 (fun b u q => Or.inl q) (fun j hj => tShowAdd_o ⟨by omega, by omega⟩) (tShowAdd_cn (by omega)) hL3 ?_ (fun s i _ _ q => q.elim) ?_
    · refine ⟨a, fr, f', ?_, ?_, k3 _ _ _ q3 (zTg.no (by omega) (by omega)), fun j hj => ?_⟩
      · show μ3 x = some (obT 3 (pcn P 9) o, oSh (tShowAdd P (nI (t / 6)) (nI (t % 6)) (nI k) 3 (pcn P 9) 0) a (tShowAdd P (nI (t / 6)) (nI (t % 6)) (nI k) 3 (pcn P 9) 3) (tShowAdd P (nI (t / 6)) (nI (t % 6)) (nI k) 3 (pcn P 9) 4) (tShowAdd P (nI (t / 6)) (nI (t % 6)) (nI k) 3 (pcn P 9) 5) (tShowAdd P (nI (t / 6)) (nI (t % 6)) (nI k) 3 (pcn P 9) 6) fr)
        rw [tShowAdd_n (by decide), tShowAdd_n (by decide), tShowAdd_n (by decide), tShowAdd_n (by decide), tShowAdd_n (by decide)]
        exact k3 _ _ _ q2 (zTg.no (by omega) (by omega))
      · show μ3 a = some ((0, 0), oTime (tShowAdd P (nI (t / 6)) (nI (t % 6)) (nI k) 3 (pcn P 9) 1) (tShowAdd P (nI (t / 6)) (nI (t % 6)) (nI k) 3 (pcn P 9) 2))
        rw [tShowAdd_n (by decide), tShowAdd_n (by decide)]
        refine hk3 _ _ _ ha ?_
        rintro (q | q)
        · have e1 : 0 = 20010 + 2 * 3 := congrArg Prod.fst q
          omega
        · have e1 : 0 = 20011 + 2 * 3 := congrArg Prod.fst q
          omega
      · rw [q4 j hj]
        show 12 = tFreeIn _ (nI (pcn P 9)) j
        unfold tFreeIn
        rw [tShowAdd_co (by decide)]
        refine (tFreeInF_none _ (fun b hb e => ?_)).symm
        obtain ⟨b1, b2⟩ := hB b hb
        rw [ec 4 b (by omega) (by decide), b1] at e
        have := (nI_eq (by omega) (by omega)).mp e
        omega
    · intro s i hs hi _
      have sl := hs.lt
      refine zSm.of (fun j hj => ec s i (fun z => ?_) (by omega) j) (tShowAdd_o ⟨by omega, by omega⟩) (fun b j => ec 4 b (by omega) (by decide) j)
      obtain ⟨z1, z2⟩ := z
      subst z1
      have hi : i < pcn P 9 := hi
      omega
  have m1c : zMap1 G μ3 o A ks val := zHM.ko (zHM.fr m1 hk2) (zTg.ko k3) (by omega) (by omega)
  have m2c : zMap2 G μ3 o A ks' val' := zHM.ko (zHM.fr m2 hk2) (zTg.ko k3) (by omega) (by omega)
  obtain ⟨f3, c3⟩ := zHM.cell m1c
  obtain ⟨k0, hk08, hmk⟩ := zHM.rank m1c
  have ha3 : zTim μ3 a t := by
    refine hk3 _ _ _ ha ?_
    rintro (q | q)
    · have e1 : 0 = 20010 + 2 * 3 := congrArg Prod.fst q
      omega
    · have e1 : 0 = 20011 + 2 * 3 := congrArg Prod.fst q
      omega
  have hlen := hPl.2.2.2
  obtain ⟨k1, g1, g2, hput⟩ := C_HM_put (w := pcn P 9) hmk (by omega) htk ht ha3 (hw.win hPl h1 h2) (by omega)
  refine aw_pop (q := 19) dX1_plan_18 (by first | rfl | exact zcat_rf _) rfl ?_
  first | refine aw_aload_n (i := 0) (q := 20) dX1_plan_19 rfl rfl rfl ?_ | refine aw_aloadN_n (i := 0) (q := 20) dX1_plan_19 rfl rfl rfl ?_ | refine aw_aloadQ_n (i := 0) (q := 20) dX1_plan_19 rfl rfl rfl ?_
  refine aw_getfield (q := 23) dX1_plan_20 gf_X1_37_1 (by assumption) rfl rfl ?_
  first | refine aw_aload_n (i := 2) (q := 24) dX1_plan_23 rfl rfl rfl ?_ | refine aw_aloadN_n (i := 2) (q := 24) dX1_plan_23 rfl rfl rfl ?_ | refine aw_aloadQ_n (i := 2) (q := 24) dX1_plan_23 rfl rfl rfl ?_
  first | refine aw_aload_n (i := 0) (q := 25) dX1_plan_24 rfl rfl rfl ?_ | refine aw_aloadN_n (i := 0) (q := 25) dX1_plan_24 rfl rfl rfl ?_ | refine aw_aloadQ_n (i := 0) (q := 25) dX1_plan_24 rfl rfl rfl ?_
  refine aw_getfield (q := 28) dX1_plan_25 gf_X1_25_1 (by assumption) rfl rfl ?_
  refine aw_z ?_
  refine aw_callF (q := 33) dX1_plan_28 (C_AL_size hL3) cf_X1_111_14 (by assumption) rfl rfl (by decide) (by decide) (by first | exact Nat.le_of_ble_eq_true rfl | simp [zcat_rf, Value.category]) rfl (zpk ?_)
  refine aw_iconst (v := 1) (q := 34) dX1_plan_33 rfl rfl ?_
  refine aw_isub (q := 35) dX1_plan_34 rfl ?_
  rw [nI_pred]
  refine aw_z ?_
  refine aw_callS (q := 38) dX1_plan_35 (C_valueOf (k := pcn P 9) (by omega)) cs_X1_224 rfl rfl (by decide) (by decide) (by first | exact Nat.le_of_ble_eq_true rfl | simp [zcat_rf, Value.category]) rfl (zpk ?_)
  refine AW.bud (bc' := 0 + (12 + 140 * (k1 - k0))) (bs' := 0 + (150 + 800 * (k1 - k0))) ?_ (by omega) (by omega)
  refine aw_callF (q := 43) dX1_plan_38 (hput) cf_X1_230_19 (by assumption) rfl rfl (by decide) (by decide) (by first | exact Nat.le_of_ble_eq_true rfl | simp [zcat_rf, Value.category]) rfl (fun v38 μ4 hp => ?_)
  obtain ⟨rfl, m4, k4⟩ := hp
  sorry
theorem Cv6_plan {a k t w : Nat} (h : zPR G μ p o P A c) (hM : zPM G μ o P A) (hO : tOk P) (hB : tBkOk P) (hn : pcn P 9 < 60) (ha : zTim μ a t) (ht : t < 8192) (hfr : tFreeT P t) (hw : zWd P (zPlan P) w) (h1 : w ≤ t) (h2 : t < w + 512) : Meets G 10 MX1_plan [.ref p, .int (nI k), .ref a] μ (zPlP G μ p o P A c k t) 1135 (2 * pcn P 9 + 6575) := by
  obtain ⟨⟨ks, val, m1, hPl⟩, ks', val', m2, hEv⟩ := hM
  have htk : t ∉ ks := ((zFree_iff hO hPl hEv ht).mp hfr).1
  have hp := h.1
  have hLs := h.lsh
  obtain ⟨_, chLs⟩ := hLs.cell
  have hoz : obT 3 (pcn P 9) o ≠ zC := obT_nz
  have haz : oaT 3 (pcn P 9) o ≠ zC := oaT_nz
  obtain ⟨f1, c1⟩ := zHM.cell m1
  obtain ⟨N, hN⟩ : ∃ N, pcn P 9 = N := ⟨_, rfl⟩
  obtain ⟨n2, hn2⟩ : ∃ n2, 2 * pcn P 9 = n2 := ⟨_, rfl⟩
  obtain ⟨pc', hpc⟩ : ∃ x : Nat, x = 1132 := ⟨_, rfl⟩
  obtain ⟨ps', hps⟩ : ∃ x : Nat, x = 6550 := ⟨_, rfl⟩
  refine meets_of (by decide +kernel) (Nat.le_of_ble_eq_true rfl) ?_
  refine AW.bud (bc' := ((pc' + 1) + 1) + 1) (bs' := ((ps' + (2 * pcn P 9 + 10)) + 8) + 7) ?_ (by omega) (by omega)
  first | refine aw_aload_n (i := 0) (q := 1) dX1_plan_0 rfl rfl rfl ?_ | refine aw_aloadN_n (i := 0) (q := 1) dX1_plan_0 rfl rfl rfl ?_ | refine aw_aloadQ_n (i := 0) (q := 1) dX1_plan_0 rfl rfl rfl ?_
  refine aw_getfield (q := 4) dX1_plan_1 gf_X1_25_1 (by assumption) rfl rfl ?_
  first | refine aw_new (q := 7) dX1_plan_4 nw_X1_80 (obT 3 (pcn P 9) o) (by first | assumption | simp) rfl (fun x μ1 hn_x hg_μ1 => ?_) | (refine AW.sub (bc' := 1) (bs' := 7) (by omega) (by omega) ?_; refine aw_new (q := 7) dX1_plan_4 nw_X1_80 (obT 3 (pcn P 9) o) (by first | assumption | simp) rfl (fun x μ1 hn_x hg_μ1 => ?_))
  have chLs : μ1 _ = some _ := hg_μ1 ▸ (updM_ne (zneN chLs hn_x)).trans chLs
  have c1 : μ1 _ = some _ := hg_μ1 ▸ (updM_ne (zneN c1 hn_x)).trans c1
  have h_x : μ1 x = some _ := hg_μ1 ▸ updM_eq _ _ _
  have hk1 : zKp zF μ μ1 := hg_μ1 ▸ zKp.new hn_x
  refine aw_dup (q := 8) dX1_plan_7 (by first | rfl | exact zcat_rf _) rfl ?_
  refine aw_iload_n (i := 1) (q := 9) dX1_plan_8 rfl rfl rfl ?_
  first | refine aw_aload_n (i := 2) (q := 10) dX1_plan_9 rfl rfl rfl ?_ | refine aw_aloadN_n (i := 2) (q := 10) dX1_plan_9 rfl rfl rfl ?_ | refine aw_aloadQ_n (i := 2) (q := 10) dX1_plan_9 rfl rfl rfl ?_
  refine aw_callI (q := 13) dX1_plan_10 (C_Show_init2 (uf := oaT 3 (pcn P 9) o) h_x hoz haz) ci_X1_221 rfl rfl (by decide) (by decide) (by first | exact Nat.le_of_ble_eq_true rfl | simp [zcat_rf, Value.category]) rfl (fun v10 μ2 hp => ?_)
  obtain ⟨rfl, fr, f', q1, q2, q3, q4, q5⟩ := hp
  have hk2 : zKp zF μ μ2 := fun b u e hb _ => q5 b u e (hk1 b u e hb (fun z => z)) (zneN hb hn_x)
  have hL2 := hLs.kp hk2 (fun _ z => z) (fun _ z => z)
  obtain ⟨_, chL2⟩ := hL2.cell
  have hel : ∀ i, i < pcn P 9 → zOb μ2 (A 3 i) := fun i hi => by
    obtain ⟨ti, ri, fi, hi1, -⟩ := h.sh hi
    exact ⟨_, _, _, hk2 _ _ _ hi1 (fun z => z), ca5O⟩
  refine aw_callF (q := 18) dX1_plan_13 (C_AL_add hL2 ⟨_, _, _, q2, ca5O⟩ zlsz zlaz zlsa (by omega) hel) cf_X1_71_14 (by assumption) rfl rfl (by decide) (by decide) (by first | exact Nat.le_of_ble_eq_true rfl | simp [zcat_rf, Value.category]) rfl (fun v13 μ3 hp => ?_)
  obtain ⟨rfl, hL3, k3⟩ := hp
  obtain ⟨_, chL3⟩ := hL3.cell
  have hk3 : zKp (zTg (lsT 3 o) (laT 3 o)) μ μ3 := hk2.f0.tr k3
  have hp3 : μ3 p = some (pgT 0 o, oPG A c P) := hk3 _ _ _ hp (zTg.no (by omega) (by omega))
  have ec : ∀ s j, ¬ (s = 3 ∧ j = pcn P 9) → s ≠ 0 → ∀ i, tShowAdd P (nI (t / 6)) (nI (t % 6)) (nI k) s j i = P s j i := fun s j n1 n2 i => tShowAdd_o ⟨n1, by omega⟩
  have hdone : zPR G μ3 p o (tShowAdd P (nI (t / 6)) (nI (t % 6)) (nI k)) (zA1 A 3 (pcn P 9) x) (upd c 3 (c 3 + 1)) := by
    refine h.add (s0 := 3) (B := fun _ _ => False) hO (Or.inr (Or.inr (Or.inl rfl))) hk3 (fun b u q => Or.inl q) (fun j hj => tShowAdd_o ⟨by omega, by omega⟩) (tShowAdd_cn (by omega)) hL3 ?_ (fun s i _ _ q => q.elim) ?_
    · refine ⟨a, fr, f', ?_, ?_, k3 _ _ _ q3 (zTg.no (by omega) (by omega)), fun j hj => ?_⟩
      · show μ3 x = some (obT 3 (pcn P 9) o, oSh (tShowAdd P (nI (t / 6)) (nI (t % 6)) (nI k) 3 (pcn P 9) 0) a (tShowAdd P (nI (t / 6)) (nI (t % 6)) (nI k) 3 (pcn P 9) 3) (tShowAdd P (nI (t / 6)) (nI (t % 6)) (nI k) 3 (pcn P 9) 4) (tShowAdd P (nI (t / 6)) (nI (t % 6)) (nI k) 3 (pcn P 9) 5) (tShowAdd P (nI (t / 6)) (nI (t % 6)) (nI k) 3 (pcn P 9) 6) fr)
        rw [tShowAdd_n (by decide), tShowAdd_n (by decide), tShowAdd_n (by decide), tShowAdd_n (by decide), tShowAdd_n (by decide)]
        exact k3 _ _ _ q2 (zTg.no (by omega) (by omega))
      · show μ3 a = some ((0, 0), oTime (tShowAdd P (nI (t / 6)) (nI (t % 6)) (nI k) 3 (pcn P 9) 1) (tShowAdd P (nI (t / 6)) (nI (t % 6)) (nI k) 3 (pcn P 9) 2))
        rw [tShowAdd_n (by decide), tShowAdd_n (by decide)]
        refine hk3 _ _ _ ha ?_
        rintro (q | q)
        · have e1 : 0 = 20010 + 2 * 3 := congrArg Prod.fst q
          omega
        · have e1 : 0 = 20011 + 2 * 3 := congrArg Prod.fst q
          omega
      · rw [q4 j hj]
        show 12 = tFreeIn _ (nI (pcn P 9)) j
        unfold tFreeIn
        rw [tShowAdd_co (by decide)]
        refine (tFreeInF_none _ (fun b hb e => ?_)).symm
        obtain ⟨b1, b2⟩ := hB b hb
        rw [ec 4 b (by omega) (by decide), b1] at e
        have := (nI_eq (by omega) (by omega)).mp e
        omega
    · intro s i hs hi _
      have sl := hs.lt
      refine zSm.of (fun j hj => ec s i (fun z => ?_) (by omega) j) (tShowAdd_o ⟨by omega, by omega⟩) (fun b j => ec 4 b (by omega) (by decide) j)
      obtain ⟨z1, z2⟩ := z
      subst z1
      have hi : i < pcn P 9 := hi
      omega
  have m1c : zMap1 G μ3 o A ks val := zHM.ko (zHM.fr m1 hk2) (zTg.ko k3) (by omega) (by omega)
  have m2c : zMap2 G μ3 o A ks' val' := zHM.ko (zHM.fr m2 hk2) (zTg.ko k3) (by omega) (by omega)
  obtain ⟨f3, c3⟩ := zHM.cell m1c
  obtain ⟨k0, hk08, hmk⟩ := zHM.rank m1c
  have ha3 : zTim μ3 a t := by
    refine hk3 _ _ _ ha ?_
    rintro (q | q)
    · have e1 : 0 = 20010 + 2 * 3 := congrArg Prod.fst q
      omega
    · have e1 : 0 = 20011 + 2 * 3 := congrArg Prod.fst q
      omega
  have hlen := hPl.2.2.2
  obtain ⟨k1, g1, g2, hput⟩ := C_HM_put (w := pcn P 9) hmk (by omega) htk ht ha3 (hw.win hPl h1 h2) (by omega)
  refine aw_pop (q := 19) dX1_plan_18 (by first | rfl | exact zcat_rf _) rfl ?_
  first | refine aw_aload_n (i := 0) (q := 20) dX1_plan_19 rfl rfl rfl ?_ | refine aw_aloadN_n (i := 0) (q := 20) dX1_plan_19 rfl rfl rfl ?_ | refine aw_aloadQ_n (i := 0) (q := 20) dX1_plan_19 rfl rfl rfl ?_
  refine aw_getfield (q := 23) dX1_plan_20 gf_X1_37_1 (by assumption) rfl rfl ?_
  first | refine aw_aload_n (i := 2) (q := 24) dX1_plan_23 rfl rfl rfl ?_ | refine aw_aloadN_n (i := 2) (q := 24) dX1_plan_23 rfl rfl rfl ?_ | refine aw_aloadQ_n (i := 2) (q := 24) dX1_plan_23 rfl rfl rfl ?_
  first | refine aw_aload_n (i := 0) (q := 25) dX1_plan_24 rfl rfl rfl ?_ | refine aw_aloadN_n (i := 0) (q := 25) dX1_plan_24 rfl rfl rfl ?_ | refine aw_aloadQ_n (i := 0) (q := 25) dX1_plan_24 rfl rfl rfl ?_
  refine aw_getfield (q := 28) dX1_plan_25 gf_X1_25_1 (by assumption) rfl rfl ?_
  refine aw_z ?_
  refine aw_callF (q := 33) dX1_plan_28 (C_AL_size hL3) cf_X1_111_14 (by assumption) rfl rfl (by decide) (by decide) (by first | exact Nat.le_of_ble_eq_true rfl | simp [zcat_rf, Value.category]) rfl (zpk ?_)
  refine aw_iconst (v := 1) (q := 34) dX1_plan_33 rfl rfl ?_
  refine aw_isub (q := 35) dX1_plan_34 rfl ?_
  rw [nI_pred]
  refine aw_z ?_
  refine aw_callS (q := 38) dX1_plan_35 (C_valueOf (k := pcn P 9) (by omega)) cs_X1_224 rfl rfl (by decide) (by decide) (by first | exact Nat.le_of_ble_eq_true rfl | simp [zcat_rf, Value.category]) rfl (zpk ?_)
  refine AW.bud (bc' := 0 + (12 + 140 * (k1 - k0))) (bs' := 0 + (150 + 800 * (k1 - k0))) ?_ (by omega) (by omega)
  refine aw_callF (q := 43) dX1_plan_38 (hput) cf_X1_230_19 (by assumption) rfl rfl (by decide) (by decide) (by first | exact Nat.le_of_ble_eq_true rfl | simp [zcat_rf, Value.category]) rfl (fun v38 μ4 hp => ?_)
  obtain ⟨rfl, m4, k4⟩ := hp
  have hL4 := hL3.kp k4 (fun b z => by have z2 : 20010 + 2 * 3 < 3 + 8194 := z.2.2; omega) (fun b z => by have z2 : 20011 + 2 * 3 < 3 + 8194 := z.2.2; omega)
  obtain ⟨_, chL4⟩ := hL4.cell
  have hp4 : μ4 p = some (pgT 0 o, oPG A c P) := k4 _ _ _ hp3 (fun z => by have z2 : 20000 < 3 + 8194 := z.2.2; omega)
  refine aw_pop (q := 44) dX1_plan_43 (by first | rfl | exact zcat_rf _) rfl ?_
  first | refine aw_aload_n (i := 0) (q := 45) dX1_plan_44 rfl rfl rfl ?_ | refine aw_aloadN_n (i := 0) (q := 45) dX1_plan_44 rfl rfl rfl ?_ | refine aw_aloadQ_n (i := 0) (q := 45) dX1_plan_44 rfl rfl rfl ?_
  refine aw_getfield (q := 48) dX1_plan_45 gf_X1_25_1 (by assumption) rfl rfl ?_
  refine aw_z ?_
  refine aw_callF (q := 53) dX1_plan_48 (C_AL_size hL4) cf_X1_111_14 (by assumption) rfl rfl (by decide) (by decide) (by first | exact Nat.le_of_ble_eq_true rfl | simp [zcat_rf, Value.category]) rfl (zpk ?_)
  sorry
set_option maxHeartbeats 600000 in
theorem C_plan {a k t w : Nat} (h : zPR G μ p o P A c) (hM : zPM G μ o P A) (hO : tOk P) (hB : tBkOk P) (hn : pcn P 9 < 60) (ha : zTim μ a t) (ht : t < 8192) (hfr : tFreeT P t) (hw : zWd P (zPlan P) w) (h1 : w ≤ t) (h2 : t < w + 512) : Meets G 10 MX1_plan [.ref p, .int (nI k), .ref a] μ (zPlP G μ p o P A c k t) 1135 (2 * pcn P 9 + 6575) := by
  sorry
end ZPO

/-! THE PROGRAMME: a show moves to another time -/
set_option maxRecDepth 100000
theorem tForD_same {P Q : zP} (h : tSame P Q) {b i : Nat} : tForD Q b i ↔ tForD P b i := by
  show (Q 6 i 4 = 0 ∧ Q 6 i 0 = Q 4 b 2 ∧ Q 6 i 1 = Q 3 (tSh Q b) 0) ↔ (P 6 i 4 = 0 ∧ P 6 i 0 = P 4 b 2 ∧ P 6 i 1 = P 3 (tSh P b) 0)
  rw [h.sh, h 6 i 4 (by omega), h 6 i 0 (by omega), h 4 b 2 (by omega), h 6 i 1 (by omega), h 3 (tSh P b) 0 (by omega)]
/-- losing one booking and telling of another's move: in either order -/
theorem tLM_comm {Q : zP} {b b' w : Nat} {f t : Int32} : tMoved (tLose Q b' w) b f t = tLose (tMoved Q b f t) b' w := by
  have h1 : tSame Q (tLose Q b' w) := tLose_same
  have h2 : tSame Q (tMoved Q b f t) := tMoved_same
  funext s i c
  have c1 : (s = 6 ∧ c = 7 ∧ i < pcn (tLose Q b' w) 12 ∧ tForD (tLose Q b' w) b i ∧ f ≤ tLose Q b' w 6 i 3 ∧ tLose Q b' w 6 i 3 < t) ↔ (s = 6 ∧ c = 7 ∧ i < pcn Q 12 ∧ tForD Q b i ∧ f ≤ Q 6 i 3 ∧ Q 6 i 3 < t) := by
    rw [h1.cn, h1 6 i 3 (by omega), tForD_same h1]
  have e1 : tMoved (tLose Q b' w) b f t s i c = if s = 6 ∧ c = 7 ∧ i < pcn Q 12 ∧ tForD Q b i ∧ f ≤ Q 6 i 3 ∧ Q 6 i 3 < t then tLose Q b' w s i c + Q 4 b 1 else tLose Q b' w s i c := by
    unfold tMoved tMovedN
    exact if_congr c1 (by rw [h1 4 b 1 (by omega)]) rfl
  have c2 : (s = 6 ∧ c = 5 + w ∧ i < pcn (tMoved Q b f t) 12 ∧ tForD (tMoved Q b f t) b' i ∧ tMoved Q b f t 3 (tSh (tMoved Q b f t) b') 1 ≤ tMoved Q b f t 6 i 3) ↔ (s = 6 ∧ c = 5 + w ∧ i < pcn Q 12 ∧ tForD Q b' i ∧ Q 3 (tSh Q b') 1 ≤ Q 6 i 3) := by
    rw [h2.cn, h2 6 i 3 (by omega), h2.sh, h2 3 (tSh Q b') 1 (by omega), tForD_same h2]
  have e2 : tTally (tMoved Q b f t) b' w s i c = if s = 6 ∧ c = 5 + w ∧ i < pcn Q 12 ∧ tForD Q b' i ∧ Q 3 (tSh Q b') 1 ≤ Q 6 i 3 then tMoved Q b f t s i c + Q 4 b' 1 else tMoved Q b f t s i c := by
    unfold tTally tTallyN
    exact if_congr c2 (by rw [h2 4 b' 1 (by omega)]) rfl
  have e3 : tMoved Q b f t s i c = if s = 6 ∧ c = 7 ∧ i < pcn Q 12 ∧ tForD Q b i ∧ f ≤ Q 6 i 3 ∧ Q 6 i 3 < t then Q s i c + Q 4 b 1 else Q s i c := rfl
  have e4 : tTally Q b' w s i c = if s = 6 ∧ c = 5 + w ∧ i < pcn Q 12 ∧ tForD Q b' i ∧ Q 3 (tSh Q b') 1 ≤ Q 6 i 3 then Q s i c + Q 4 b' 1 else Q s i c := rfl
  have v1 : tLose Q b' w s i c = if s = 4 ∧ i = b' then (if c = 4 then 4 else if c = 6 then Q 4 b' 5 else if 8 ≤ c ∧ c < 8 + 8 then 0 else tTally Q b' w s i c) else tTally Q b' w s i c := rfl
  have v2 : tLose (tMoved Q b f t) b' w s i c = if s = 4 ∧ i = b' then (if c = 4 then 4 else if c = 6 then tMoved Q b f t 4 b' 5 else if 8 ≤ c ∧ c < 8 + 8 then 0 else tTally (tMoved Q b f t) b' w s i c) else tTally (tMoved Q b f t) b' w s i c := rfl
  rw [e1, v2, v1]
  by_cases hs : s = 4 ∧ i = b'
  · rw [if_pos hs, if_pos hs, if_neg (fun q => by omega), e2, if_neg (fun q => by omega), e3, if_neg (fun q => by omega), e4, if_neg (fun q => by omega), h2 4 b' 5 (by omega)]
  · rw [if_neg hs, if_neg hs, e2, e3, e4]
    by_cases x : s = 6 ∧ c = 7 ∧ i < pcn Q 12 ∧ tForD Q b i ∧ f ≤ Q 6 i 3 ∧ Q 6 i 3 < t
    · rw [if_pos x, if_pos x]
      by_cases y : s = 6 ∧ c = 5 + w ∧ i < pcn Q 12 ∧ tForD Q b' i ∧ Q 3 (tSh Q b') 1 ≤ Q 6 i 3
      · rw [if_pos y, if_pos y, Int32.add_assoc, Int32.add_comm (Q 4 b' 1), ← Int32.add_assoc]
      · rw [if_neg y, if_neg y]
    · rw [if_neg x, if_neg x]
/-- the bookings that go along are told -/
def tMovN (P Q : zP) (s : Nat) (day to : Int32) : Nat → zP
  | 0 => Q
  | b + 1 => if P 4 b 0 = nI s ∧ P 4 b 4 = 0 ∧ P 4 b 3 = 0 then tMoved (tMovN P Q s day to b) b day to else tMovN P Q s day to b
theorem tMovN_p {P Q : zP} {s b : Nat} {d t : Int32} (h : P 4 b 0 = nI s ∧ P 4 b 4 = 0 ∧ P 4 b 3 = 0) : tMovN P Q s d t (b + 1) = tMoved (tMovN P Q s d t b) b d t := if_pos h
theorem tMovN_n {P Q : zP} {s b : Nat} {d t : Int32} (h : ¬ (P 4 b 0 = nI s ∧ P 4 b 4 = 0 ∧ P 4 b 3 = 0)) : tMovN P Q s d t (b + 1) = tMovN P Q s d t b := if_neg h
theorem tMovN_lose {P Q : zP} {s b w : Nat} {d t : Int32} : ∀ n, tMovN P (tLose Q b w) s d t n = tLose (tMovN P Q s d t n) b w
  | 0 => rfl
  | n + 1 => by
    have ih := tMovN_lose (P := P) (Q := Q) (s := s) (b := b) (w := w) (d := d) (t := t) n
    by_cases q : P 4 n 0 = nI s ∧ P 4 n 4 = 0 ∧ P 4 n 3 = 0
    · rw [tMovN_p q, tMovN_p q, ih, tLM_comm]
    · rw [tMovN_n q, tMovN_n q, ih]
theorem tMovN_same {P Q : zP} {s : Nat} {d t : Int32} : ∀ n, tSame Q (tMovN P Q s d t n)
  | 0 => tSame.rf
  | n + 1 => by
    have ih := tMovN_same (P := P) (Q := Q) (s := s) (d := d) (t := t) n
    by_cases q : P 4 n 0 = nI s ∧ P 4 n 4 = 0 ∧ P 4 n 3 = 0
    · rw [tMovN_p q]; exact ih.tr tMoved_same
    · rw [tMovN_n q]; exact ih
theorem tMovN_bk {P Q : zP} {s b c : Nat} {d t : Int32} : ∀ n, tMovN P Q s d t n 4 b c = Q 4 b c
  | 0 => rfl
  | n + 1 => by
    have ih := tMovN_bk (P := P) (Q := Q) (s := s) (b := b) (c := c) (d := d) (t := t) n
    by_cases q : P 4 n 0 = nI s ∧ P 4 n 4 = 0 ∧ P 4 n 3 = 0
    · rw [tMovN_p q]; exact tMoved_bk.trans ih
    · rw [tMovN_n q]; exact ih
/-- bookings are bound or not -/
def tBd (P : zP) : Prop := ∀ b, b < pcn P 10 → P 4 b 3 = 0 ∨ P 4 b 3 = 1
theorem tDispN_mov {P : zP} {D : Nat → Int32} {s : Nat} {d t : Int32} (hb : tBd P) : ∀ n, n ≤ pcn P 10 → (tDispN P D s true d t n).1 = tMovN P (tLosN P s 2 true n) s d t n
  | 0, _ => rfl
  | n + 1, hn => by
    have ih := tDispN_mov (P := P) (D := D) (s := s) (d := d) (t := t) hb n (by omega)
    by_cases q : P 4 n 0 = nI s ∧ P 4 n 4 = 0
    · by_cases q3 : P 4 n 3 = 1
      · have e1 : (tDispN P D s true d t (n + 1)).1 = tLose (tDispN P D s true d t n).1 n 2 := by
          unfold tDispN; rw [if_pos q, if_pos (Or.inr q3)]
        have e2 : tLosN P s 2 true (n + 1) = tLose (tLosN P s 2 true n) n 2 := if_pos ⟨q.1, q.2, fun _ => by rw [q3]; decide⟩
        rw [e1, e2, tMovN_n (fun z => by rw [q3] at z; exact absurd z.2.2 (by decide)), tMovN_lose, ih]
      · have q0 := (hb n (by omega)).resolve_right q3
        have e1 : (tDispN P D s true d t (n + 1)).1 = tMoved (tDispN P D s true d t n).1 n d t := by
          unfold tDispN; rw [if_pos q, if_neg (fun z => z.elim (fun z => by cases z) q3)]
        have e2 : tLosN P s 2 true (n + 1) = tLosN P s 2 true n := if_neg (fun z => z.2.2 rfl q0)
        rw [e1, e2, tMovN_p ⟨q.1, q.2, q0⟩, ih]
    · have e1 : (tDispN P D s true d t (n + 1)).1 = (tDispN P D s true d t n).1 := by
        unfold tDispN; rw [if_neg q]
      have e2 : tLosN P s 2 true (n + 1) = tLosN P s 2 true n := if_neg (fun z => q ⟨z.1, z.2.1⟩)
      rw [e1, e2, tMovN_n (fun z => q ⟨z.1, z.2.1⟩), ih]
theorem tLose_4 {P : zP} {b w : Nat} : tLose P b w 4 b 4 = 4 := by
  unfold tLose tVacate tVacateN
  rw [if_pos ⟨rfl, rfl⟩, if_pos rfl]
theorem tLosN_st {P : zP} {s w k : Nat} {bd : Bool} : ∀ n, tLosN P s w bd n 4 k 4 = if k < n ∧ P 4 k 0 = nI s ∧ P 4 k 4 = 0 ∧ (bd = true → P 4 k 3 ≠ 0) then 4 else P 4 k 4
  | 0 => by rw [if_neg (by omega)]; rfl
  | n + 1 => by
    have ih := tLosN_st (P := P) (s := s) (w := w) (k := k) (bd := bd) n
    by_cases q : P 4 n 0 = nI s ∧ P 4 n 4 = 0 ∧ (bd = true → P 4 n 3 ≠ 0)
    · have e2 : tLosN P s w bd (n + 1) = tLose (tLosN P s w bd n) n w := if_pos q
      rw [e2]
      by_cases e : k = n
      · subst e
        rw [tLose_4, if_pos ⟨by omega, q⟩]
      · rw [tLose_bk e, ih]
        by_cases z : k < n ∧ P 4 k 0 = nI s ∧ P 4 k 4 = 0 ∧ (bd = true → P 4 k 3 ≠ 0)
        · rw [if_pos z, if_pos ⟨by omega, z.2⟩]
        · rw [if_neg z, if_neg (fun y => z ⟨by omega, y.2⟩)]
    · have e2 : tLosN P s w bd (n + 1) = tLosN P s w bd n := if_neg q
      rw [e2, ih]
      by_cases z : k < n ∧ P 4 k 0 = nI s ∧ P 4 k 4 = 0 ∧ (bd = true → P 4 k 3 ≠ 0)
      · rw [if_pos z, if_pos ⟨by omega, z.2⟩]
      · rw [if_neg z, if_neg (fun y => z ⟨by (by_cases e : k = n; (subst e; exact absurd y.2 q); omega), y.2⟩)]
section ZPQ
variable {G : zG} {μ μ' : zM} {p o : Nat} {P : zP} {A : Nat → Nat → Nat} {c : Nat → Int32}
theorem zTm_ko {a t : Nat} (h : zTim μ a t) (hk : zKp (zKo o) μ μ') : zTim μ' a t := hk _ _ _ h (fun q => by have q2 : 20000 ≤ 0 := q.2; omega)
/-- a show's time and how often it moved -/
def tMvd (Q : zP) (s t : Nat) : zP := updP (updP (updP Q 3 s 1 (nI (t / 6))) 3 s 2 (nI (t % 6))) 3 s 6 (Q 3 s 6 + 1)
theorem tMvd_o {Q : zP} {s t s' i j : Nat} (h : s' ≠ 3 ∨ i ≠ s ∨ (j ≠ 1 ∧ j ≠ 2 ∧ j ≠ 6)) : tMvd Q s t s' i j = Q s' i j := by
  unfold tMvd; rw [updP_ne (by omega), updP_ne (by omega), updP_ne (by omega)]
theorem tMvd_1 {Q : zP} {s t : Nat} : tMvd Q s t 3 s 1 = nI (t / 6) ∧ tMvd Q s t 3 s 2 = nI (t % 6) ∧ tMvd Q s t 3 s 6 = Q 3 s 6 + 1 := by
  unfold tMvd
  refine ⟨?_, ?_, ?_⟩
  · rw [updP_ne (by omega), updP_ne (by omega), updP_eq]
  · rw [updP_ne (by omega), updP_eq]
  · rw [updP_eq]
theorem zPR.mvd {i a t r t0 : Nat} {f : Nat → Int32} (h : zPR G μ p o P A c) (hO : tOk P) (hi : i < pcn P 9) (hob : μ (A 3 i) = some (obT 3 i o, oSh (P 3 i 0) t0 (P 3 i 3) (P 3 i 4) (P 3 i 5) (P 3 i 6) r)) (hr : μ r = some (oaT 3 i o, aI G 8 f)) (hf : ∀ j, j < 8 → f j = tFreeIn P (nI i) j) (ha : zTim μ a t) (hμ : μ' = updM μ (A 3 i) (obT 3 i o, oSh (P 3 i 0) a (P 3 i 3) (P 3 i 4) (P 3 i 5) (P 3 i 6 + 1) r)) : zPR G μ' p o (tMvd P i t) A c ∧ zKp (zKo o) μ μ' := by
  have n1 : r ≠ A 3 i := zneq hr hob (by simp)
  have n2 : a ≠ A 3 i := zneq ha hob (by simp)
  have o4 : ∀ b j, tMvd P i t 4 b j = P 4 b j := fun b j => tMvd_o (Or.inl (by decide))
  have o0 : ∀ j, tMvd P i t 0 0 j = P 0 0 j := fun j => tMvd_o (Or.inl (by decide))
  have ofr : ∀ x j, tFreeIn (tMvd P i t) x j = tFreeIn P x j := fun x j => by
    have e : pcn (tMvd P i t) 10 = pcn P 10 := by unfold pcn; rw [o0]
    unfold tFreeIn
    rw [e]
    exact tFreeInF_congr _ (fun y _ => ⟨o4 _ _, o4 _ _⟩)
  obtain ⟨m1, m2, m3⟩ := tMvd_1 (Q := P) (s := i) (t := t)
  refine ⟨h.one (s0 := 3) (i0 := i) hO (Or.inr (Or.inr (Or.inl rfl))) hi (hμ ▸ zKp.put hob (Or.inl rfl)) o0 ?_ (fun s j _ _ n => ⟨fun x _ => tMvd_o (by omega), fun _ x _ => ofr _ _⟩), hμ ▸ zKp.put hob zKo.ob⟩
  refine ⟨a, r, f, ?_, ?_, hμ ▸ (updM_ne n1).trans hr, fun j hj => (hf j hj).trans (ofr _ _).symm⟩
  · rw [tMvd_o (by omega), tMvd_o (by omega), tMvd_o (by omega), tMvd_o (by omega), m3, hμ]
    exact updM_eq _ _ _
  · rw [m1, m2, hμ]; exact (updM_ne n2).trans ha
/-- what moves leaves -/
def zMvP (G : zG) (μ : zM) (p o : Nat) (P : zP) (A : Nat → Nat → Nat) (c : Nat → Int32) (ks' : List Nat) (val' : Nat → Nat) (s t : Nat) : Option Value → zM → Prop := fun v μ' => v = none ∧ zPR G μ' p o (tMvd (tMovN P (tLosN P s 2 true (pcn P 10)) s (P 3 s 1) (nI (t / 6)) (pcn P 10)) s t) A c ∧ (∃ ks val, zMap1 G μ' o A ks val ∧ zPlq (tMvd (tMovN P (tLosN P s 2 true (pcn P 10)) s (P 3 s 1) (nI (t / 6)) (pcn P 10)) s t) (zPlan (tMvd (tMovN P (tLosN P s 2 true (pcn P 10)) s (P 3 s 1) (nI (t / 6)) (pcn P 10)) s t)) ks val) ∧ zMap2 G μ' o A ks' val' ∧ zKp (zOw o) μ μ'
/-- one asked promise more -/
theorem tMovedN_c {b n : Nat} {f t : Int32} [hd : Decidable (tForD P b n ∧ f ≤ P 6 n 3 ∧ P 6 n 3 < t)] : updP (tMovedN P b f t n) 6 n 7 (P 6 n 7 + (if tForD P b n ∧ f ≤ P 6 n 3 ∧ P 6 n 3 < t then P 4 b 1 else 0)) = tMovedN P b f t (n + 1) := by
  by_cases q : tForD P b n ∧ f ≤ P 6 n 3 ∧ P 6 n 3 < t
  · rw [if_pos q]; exact tMovedN_t q
  · rw [if_neg q, Int32.add_zero, tMovedN_s q, ← tMovedN_hi (P := P) (b := b) (s := 6) (c := 7) (f := f) (t := t) (Nat.le_refl n)]
    exact updP_id
set_option maxHeartbeats 600000 in
/-- moves' inner loop: the promises of one booking -/
theorem mvs_in {Q : zP} {b s a t it it2 : Nat} {d0 : Int32} {post : Option Value → zM → Prop} (hO : tOk Q) (hb : b < pcn Q 10) (hsb : tSh Q b = s) (hs : s < pcn Q 9) (hd0 : Q 3 s 1 = d0) (bc bs : Nat) (μ0 : zM)
    (hit : μ0 it2 = none) (kk : ∀ μ', zPR G μ' p o (tMovedN Q b d0 (nI (t / 6)) (pcn Q 12)) A c → zKp (zKo o) μ0 μ' → zTim μ' a t → AW G 9 MX1_moves post bc bs 32 [(0, .ref p), (1, .int (nI s)), (2, .ref a), (3, .ref (A 3 s)), (4, .ref it)] [] μ') : ∀ (rem k : Nat) (lr : Int32) (μ2 : zM), k + rem = pcn Q 12 → zPR G μ2 p o (tMovedN Q b d0 (nI (t / 6)) k) A c → zKp (zKo o) μ0 μ2 → zTim μ2 a t → μ2 it2 = some (zTI, oItr k lr (c 6) (A 7 6)) → AW G 9 MX1_moves post bc bs 82 [(0, .ref p), (1, .int (nI s)), (2, .ref a), (3, .ref (A 3 s)), (4, .ref it), (5, .ref (A 4 b)), (6, .ref it2)] [] μ2 := by
  have hcn : pcn Q 12 ≤ 12 := hO.p.2
  have ec : ∀ n j, pcn (tMovedN Q b d0 (nI (t / 6)) n) j = pcn Q j := fun n j => by unfold pcn; rw [tMovedN_lo (Or.inl (by decide))]
  intro rem
  induction rem with
  | zero =>
    intro k lr μ2 hk h2 hkp ha hi
    have ek : k = pcn Q 12 := by omega
    have hL2 := h2.lpr
    obtain ⟨_, chL2⟩ := hL2.cell
    rw [ec] at hL2
    first | refine aw_aload (q := 84) dX1_moves_82 rfl rfl ?_ | refine aw_aloadN (q := 84) dX1_moves_82 rfl rfl ?_ | refine aw_aloadQ (q := 84) dX1_moves_82 rfl rfl ?_
    refine aw_z ?_
    refine aw_callF (q := 89) dX1_moves_84 (C_Itr_hasNext hL2 hi) cf_X1_56_11 (by assumption) rfl rfl (by decide) (by decide) (by first | exact Nat.le_of_ble_eq_true rfl | simp [zcat_rf, Value.category]) rfl (zpk ?_)
    refine aw_if_eq (tgt := 161) (q := 92) dX1_moves_89 (by decide) rfl (fun _ => ?_) (fun hZ => absurd ((zB_f (fun q => q (by rw [ek])))) hZ)
    refine aw_goto (tgt := 32) dX1_moves_161 (by decide) ?_
    exact AW.bud (aw_locals (by exact ⟨rfl, rfl, rfl, rfl, rfl, trivial⟩) (kk μ2 (by rw [ek] at h2; exact h2) hkp ha)) (by omega) (by omega)
  | succ rem ih =>
    intro k lr μ2 hk h2 hkp ha hi
    have hkn : k < pcn Q 12 := by omega
    have hL2 := h2.lpr
    obtain ⟨_, chL2⟩ := hL2.cell
    rw [ec] at hL2
    first | refine aw_aload (q := 84) dX1_moves_82 rfl rfl ?_ | refine aw_aloadN (q := 84) dX1_moves_82 rfl rfl ?_ | refine aw_aloadQ (q := 84) dX1_moves_82 rfl rfl ?_
    refine aw_z ?_
    refine aw_callF (q := 89) dX1_moves_84 (C_Itr_hasNext hL2 hi) cf_X1_56_11 (by assumption) rfl rfl (by decide) (by decide) (by first | exact Nat.le_of_ble_eq_true rfl | simp [zcat_rf, Value.category]) rfl (zpk ?_)
    refine aw_if_eq (tgt := 161) (q := 92) dX1_moves_89 (by decide) rfl (fun hZ => absurd hZ (zHn hkn (by omega))) (fun _ => ?_)
    first | refine aw_aload (q := 94) dX1_moves_92 rfl rfl ?_ | refine aw_aloadN (q := 94) dX1_moves_92 rfl rfl ?_ | refine aw_aloadQ (q := 94) dX1_moves_92 rfl rfl ?_
    refine aw_z ?_
    refine aw_callF (q := 99) dX1_moves_94 (C_Itr_next hL2 hi hkn zTI_nz zTI_ls zTI_la) cf_X1_62_11 (by assumption) rfl rfl (by decide) (by decide) (by first | exact Nat.le_of_ble_eq_true rfl | simp [zcat_rf, Value.category]) rfl (fun v94 μ3 hp => ?_)
    obtain ⟨rfl, hg3⟩ := hp
    have h3 := h2.ti hi hg3
    have hkp3 : zKp (zKo o) μ0 μ3 := hg3 ▸ hkp.it hit
    have hi3 : μ3 it2 = _ := hg3 ▸ updM_eq _ _ _
    have ha3 : zTim μ3 a t := hg3 ▸ (updM_ne (zneq ha hi (by simp))).trans ha
    obtain ⟨r, f, hpr, hct, hf⟩ := h3.pr (i := k) (by rw [ec]; exact hkn)
    obtain ⟨rb, fb, hob, -, -⟩ := h3.bk (i := b) (by rw [ec]; exact hb)
    obtain ⟨ts, rs, fs, hsh, htm, -, -⟩ := h3.sh (i := s) (by rw [ec]; exact hs)
    have hpr0 := hpr
    rw [tMovedN_lo (s := 4) (c := 1) (Or.inl (by decide)), tMovedN_lo (s := 4) (c := 2) (Or.inl (by decide))] at hob
    rw [tMovedN_lo (s := 6) (c := 0) (Or.inr (by decide)), tMovedN_lo (s := 6) (c := 1) (Or.inr (by decide)), tMovedN_lo (s := 6) (c := 3) (Or.inr (by decide)), tMovedN_lo (s := 6) (c := 4) (Or.inr (by decide))] at hpr
    rw [tMovedN_lo (s := 3) (c := 0) (Or.inl (by decide))] at hsh
    rw [tMovedN_lo (s := 3) (c := 1) (Or.inl (by decide)), hd0] at htm
    have hfw : f 2 = Q 6 k 7 := (hf 2 (by decide)).trans (tMovedN_hi (Nat.le_refl k))
    have htz : oaT 6 k o ≠ zC := oaT_nz
    have hir : it2 ≠ r := zneq hi3 hct (by simp)
    have har : a ≠ r := zneq ha3 hct (by simp)
    have hjn : ∀ (x : Int32) (μ4 : zM), x = (if tForD Q b k ∧ d0 ≤ Q 6 k 3 ∧ Q 6 k 3 < nI (t / 6) then Q 4 b 1 else 0) → μ4 = updM μ3 r (oaT 6 k o, aI G 5 (upd f 2 (Q 6 k 7 + x))) → AW G 9 MX1_moves post bc bs 82 [(0, .ref p), (1, .int (nI s)), (2, .ref a), (3, .ref (A 3 s)), (4, .ref it), (5, .ref (A 4 b)), (6, .ref it2)] [] μ4 := by
      intro x μ4 hx hg4
      have h4 := h3.pcount (w := 2) (hO.congr (fun j _ _ => tMovedN_lo (Or.inl (by decide)))) (by rw [ec]; exact hkn) (by decide) hpr0 hct hf hg4
      rw [hx, tMovedN_c] at h4
      exact ih (k + 1) _ μ4 (by omega) h4 (hkp3.tr (hg4 ▸ zKp.put hct zKo.oa)) (hg4 ▸ (updM_ne har).trans ha3) (hg4 ▸ (updM_ne hir).trans hi3)
    have hno : ¬ (tForD Q b k ∧ d0 ≤ Q 6 k 3 ∧ Q 6 k 3 < nI (t / 6)) → AW G 9 MX1_moves post bc bs 131 [(0, .ref p), (1, .int (nI s)), (2, .ref a), (3, .ref (A 3 s)), (4, .ref it), (5, .ref (A 4 b)), (6, .ref it2), (7, .ref (A 6 k))] [] μ3 := by
      intro hn
      refine aw_iconst (v := 0) (q := 132) dX1_moves_131 rfl rfl ?_
      refine aw_istore (q := 134) dX1_moves_132 (by decide) rfl ?_
      try simp (config := {decide := true}) only [zput, zdel_q, zdel_f, zdel_t, zdel_nil, zdel_r, zdel_i, zdel_n]
      first | refine aw_aload (q := 136) dX1_moves_134 rfl rfl ?_ | refine aw_aloadN (q := 136) dX1_moves_134 rfl rfl ?_ | refine aw_aloadQ (q := 136) dX1_moves_134 rfl rfl ?_
      refine aw_getfield (q := 139) dX1_moves_136 gf_X1_152_7 (by assumption) rfl rfl ?_
      refine aw_iconst (v := 2) (q := 140) dX1_moves_139 rfl rfl ?_
      refine aw_dup2 (q := 141) dX1_moves_140 (by first | rfl | exact zcat_rf _) (by first | rfl | exact zcat_rf _) rfl ?_
      refine aw_iald (q := 142) (v := Q 6 k 7) (2) dX1_moves_141 (by assumption) (by first | assumption | (simp only [← nI_add, ← pk_mul]; rfl) | rfl) (by omega) (by omega) (hfw) rfl ?_
      refine aw_iload (q := 144) dX1_moves_142 rfl rfl ?_
      refine aw_if_eq (tgt := 155) (q := 147) dX1_moves_144 (by decide) rfl (fun _ => ?_) (fun hZ => absurd (rfl) hZ)
      refine aw_iconst (v := 0) (q := 156) dX1_moves_155 rfl rfl ?_
      refine aw_iadd (q := 157) dX1_moves_156 rfl ?_
      refine aw_iast (q := 158) (2) dX1_moves_157 hct (by first | assumption | simp) (by first | assumption | (simp only [← nI_add, ← pk_mul]; rfl) | rfl) (by omega) (by omega) rfl (fun μ4 hg_μ4 => ?_)
      have hct : μ4 _ = some _ := hg_μ4 ▸ updM_eq _ _ _
      refine aw_goto (tgt := 82) dX1_moves_158 (by decide) ?_
      exact AW.bud (aw_locals (by exact ⟨rfl, rfl, rfl, rfl, rfl, rfl, rfl, trivial⟩) (hjn 0 μ4 (if_neg hn).symm hg_μ4)) (by omega) (by omega)
    refine aw_cast (q := 102) dX1_moves_99 q635 hpr ca_7_X7 rfl ?_
    first | refine aw_astore (q := 104) dX1_moves_102 (by decide) rfl ?_ | refine aw_astoreN (q := 104) dX1_moves_102 (by decide) rfl ?_ | refine aw_astoreQ (q := 104) dX1_moves_102 (by decide) rfl ?_
    try simp (config := {decide := true}) only [zput, zdel_q, zdel_f, zdel_t, zdel_nil, zdel_r, zdel_i, zdel_n]
    first | refine aw_aload (q := 106) dX1_moves_104 rfl rfl ?_ | refine aw_aloadN (q := 106) dX1_moves_104 rfl rfl ?_ | refine aw_aloadQ (q := 106) dX1_moves_104 rfl rfl ?_
    first | refine aw_aload (q := 108) dX1_moves_106 rfl rfl ?_ | refine aw_aloadN (q := 108) dX1_moves_106 rfl rfl ?_ | refine aw_aloadQ (q := 108) dX1_moves_106 rfl rfl ?_
    first | refine aw_aload_n (i := 3) (q := 109) dX1_moves_108 rfl rfl rfl ?_ | refine aw_aloadN_n (i := 3) (q := 109) dX1_moves_108 rfl rfl rfl ?_ | refine aw_aloadQ_n (i := 3) (q := 109) dX1_moves_108 rfl rfl rfl ?_
    refine aw_z ?_
    refine aw_callV (q := 112) dX1_moves_109 (C_Pr_isFor hpr hob hsh htm) cv_X1_158_7 (by assumption) rfl rfl (by decide) (by decide) (by first | exact Nat.le_of_ble_eq_true rfl | simp [zcat_rf, Value.category]) rfl (zpk ?_)
    refine aw_if_eq (tgt := 131) (q := 115) dX1_moves_112 (by decide) rfl (fun c1 => ?_) (fun c1 => ?_)
    · skip
      refine aw_locals (by exact ⟨rfl, rfl, rfl, rfl, rfl, rfl, rfl, rfl, trivial⟩) (hno (fun q => absurd c1 (by rw [zB_t ⟨q.1.1, q.1.2.1.symm, by rw [q.1.2.2, hsb], q.2.1⟩]; decide)))
    · first | refine aw_aload_n (i := 2) (q := 116) dX1_moves_115 rfl rfl rfl ?_ | refine aw_aloadN_n (i := 2) (q := 116) dX1_moves_115 rfl rfl rfl ?_ | refine aw_aloadQ_n (i := 2) (q := 116) dX1_moves_115 rfl rfl rfl ?_
      refine aw_getfield (q := 119) dX1_moves_116 gf_X1_206_8 (by assumption) rfl rfl ?_
      first | refine aw_aload (q := 121) dX1_moves_119 rfl rfl ?_ | refine aw_aloadN (q := 121) dX1_moves_119 rfl rfl ?_ | refine aw_aloadQ (q := 121) dX1_moves_119 rfl rfl ?_
      refine aw_getfield (q := 124) dX1_moves_121 gf_X1_238_7 (by assumption) rfl rfl ?_
      have q1 := Classical.byContradiction (fun n => c1 (zB_f n))
      refine aw_icmp_le (tgt := 131) (q := 127) dX1_moves_124 (by decide) rfl (fun c2 => ?_) (fun c2 => ?_)
      · skip
        refine aw_locals (by exact ⟨rfl, rfl, rfl, rfl, rfl, rfl, rfl, rfl, trivial⟩) (hno (fun q => absurd q.2.2 (Int32.not_lt.mpr c2)))
      · refine aw_iconst (v := 1) (q := 128) dX1_moves_127 rfl rfl ?_
        refine aw_goto (tgt := 132) dX1_moves_128 (by decide) ?_
        refine aw_istore (q := 134) dX1_moves_132 (by decide) rfl ?_
        try simp (config := {decide := true}) only [zput, zdel_q, zdel_f, zdel_t, zdel_nil, zdel_r, zdel_i, zdel_n]
        first | refine aw_aload (q := 136) dX1_moves_134 rfl rfl ?_ | refine aw_aloadN (q := 136) dX1_moves_134 rfl rfl ?_ | refine aw_aloadQ (q := 136) dX1_moves_134 rfl rfl ?_
        refine aw_getfield (q := 139) dX1_moves_136 gf_X1_152_7 (by assumption) rfl rfl ?_
        refine aw_iconst (v := 2) (q := 140) dX1_moves_139 rfl rfl ?_
        refine aw_dup2 (q := 141) dX1_moves_140 (by first | rfl | exact zcat_rf _) (by first | rfl | exact zcat_rf _) rfl ?_
        have hy : tForD Q b k ∧ d0 ≤ Q 6 k 3 ∧ Q 6 k 3 < nI (t / 6) := ⟨⟨q1.1, q1.2.1.symm, by rw [hsb]; exact q1.2.2.1.symm⟩, q1.2.2.2, Int32.not_le.mp c2⟩
        refine aw_iald (q := 142) (v := Q 6 k 7) (2) dX1_moves_141 (by assumption) (by first | assumption | (simp only [← nI_add, ← pk_mul]; rfl) | rfl) (by omega) (by omega) (hfw) rfl ?_
        refine aw_iload (q := 144) dX1_moves_142 rfl rfl ?_
        refine aw_if_eq (tgt := 155) (q := 147) dX1_moves_144 (by decide) rfl (fun hZ => absurd hZ ((by decide))) (fun _ => ?_)
        first | refine aw_aload (q := 149) dX1_moves_147 rfl rfl ?_ | refine aw_aloadN (q := 149) dX1_moves_147 rfl rfl ?_ | refine aw_aloadQ (q := 149) dX1_moves_147 rfl rfl ?_
        refine aw_getfield (q := 152) dX1_moves_149 gf_X1_162_6 (by assumption) rfl rfl ?_
        refine aw_goto (tgt := 156) dX1_moves_152 (by decide) ?_
        refine aw_iadd (q := 157) dX1_moves_156 rfl ?_
        refine aw_iast (q := 158) (2) dX1_moves_157 hct (by first | assumption | simp) (by first | assumption | (simp only [← nI_add, ← pk_mul]; rfl) | rfl) (by omega) (by omega) rfl (fun μ4 hg_μ4 => ?_)
        have hct : μ4 _ = some _ := hg_μ4 ▸ updM_eq _ _ _
        refine aw_goto (tgt := 82) dX1_moves_158 (by decide) ?_
        exact AW.bud (aw_locals (by exact ⟨rfl, rfl, rfl, rfl, rfl, rfl, rfl, trivial⟩) (hjn _ μ4 (if_pos hy).symm hg_μ4)) (by omega) (by omega)
end ZPQ

/-! THE PROGRAMME: moves -/
set_option maxRecDepth 100000
section ZPR1
variable {G : zG} {μ μ' : zM} {p o : Nat} {P : zP} {A : Nat → Nat → Nat} {c : Nat → Int32}
theorem zTm_ls {s a t : Nat} (h : zTim μ a t) (hk : zKp (zTg (lsT s o) (laT s o)) μ μ') : zTim μ' a t := zTm_ko h (zTg.ko hk)
theorem zTm_mt {R a t : Nat} (h : zTim μ a t) (hk : zKp (zMt R o) μ μ') (hR : 1 ≤ R) : zTim μ' a t := hk _ _ _ h (fun q => by have q2 : R ≤ 0 := q.2.1; omega)
/-- the map of what is planned, beside changes of sorts 4 and 6 -/
theorem zPlq.same {Q : zP} {pl : Nat → Prop} {ks : List Nat} {val : Nat → Nat} (hP : zPlq P pl ks val) (h : tSame P Q) : zPlq Q pl ks val := hP.congr (h.cn 9) (fun s _ => ⟨Iff.rfl, fun _ => ⟨h 3 s 1 (by omega), h 3 s 2 (by omega)⟩⟩)
set_option maxHeartbeats 600000 in
theorem C_moves {a s t w : Nat} {ks ks' : List Nat} {val val' : Nat → Nat} (h : zPR G μ p o P A c) (m1 : zMap1 G μ o A ks val) (hPl : zPlq P (zPlan1 P s) ks val) (m2 : zMap2 G μ o A ks' val') (hO : tOk P) (hB : tBkOk P) (hs : s < pcn P 9) (h0 : P 3 s 3 = 0) (ha : zTim μ a t) (ht : t < 8192) (htk : t ∉ ks) (hlen : ks.length < pcn P 9) (hw : zWd P (zPlan1 P s) w) (w1 : w ≤ t) (w2 : t < w + 512) : Meets G 10 MX1_moves [.ref p, .int (nI s), .ref a] μ (zMvP G μ p o P A c ks' val' s t) (2 * pcn P 10 + 1134) (8 * pcn P 10 + 6558) := by
  have hp := h.1
  have s60 : pcn P 9 ≤ 60 := hO.s.2
  have b80 : pcn P 10 ≤ 80 := hO.b.2
  have hLs := h.lsh
  obtain ⟨_, chLs⟩ := hLs.cell
  have hsz : obT 3 s o ≠ zC := obT_nz
  obtain ⟨t0, fr, f2, hsh, htm, hfr, hf2⟩ := h.sh hs
  obtain ⟨N, hN⟩ : ∃ N, pcn P 10 = N := ⟨_, rfl⟩
  obtain ⟨N4, hN4⟩ : ∃ N4, 4 * N = N4 := ⟨_, rfl⟩
  obtain ⟨bp, hbp⟩ : ∃ x : Nat, x = 1132 := ⟨_, rfl⟩
  obtain ⟨sp, hsp⟩ : ∃ x : Nat, x = 6550 := ⟨_, rfl⟩
  obtain ⟨L, hL⟩ : ∃ L, tLosN P s 2 true N = L := ⟨_, rfl⟩
  obtain ⟨d0, hd0⟩ : ∃ d0, P 3 s 1 = d0 := ⟨_, rfl⟩
  have sL : tSame P L := hL ▸ tLosN_same N
  have sQ : ∀ k, tSame P (tMovN P L s d0 (nI (t / 6)) k) := fun k => sL.tr (tMovN_same k)
  -- the end
  have fin : ∀ (μ3 : zM) (it : Nat), zPR G μ3 p o (tMovN P L s d0 (nI (t / 6)) N) A c → zKp (zKo o) μ μ3 → zTim μ3 a t → AW G 10 MX1_moves (zMvP G μ p o P A c ks' val' s t) bp sp 164 [(0, .ref p), (1, .int (nI s)), (2, .ref a), (3, .ref (A 3 s)), (4, .ref it)] [] μ3 := by
    intro μ3 it h3 hk3 ha3
    have hO3 := (sQ N).ok hO
    have ec := (sQ N).cn
    obtain ⟨t0, fr, f2, hsh3, htm3, hfr3, hf23⟩ := h3.sh (i := s) (by rw [ec]; exact hs)
    have hsh0 := hsh3
    have nsa : a ≠ A 3 s := zneq ha3 hsh3 (by simp)
    first | refine aw_aload_n (i := 3) (q := 165) dX1_moves_164 rfl rfl rfl ?_ | refine aw_aloadN_n (i := 3) (q := 165) dX1_moves_164 rfl rfl rfl ?_ | refine aw_aloadQ_n (i := 3) (q := 165) dX1_moves_164 rfl rfl rfl ?_
    first | refine aw_aload_n (i := 2) (q := 166) dX1_moves_165 rfl rfl rfl ?_ | refine aw_aloadN_n (i := 2) (q := 166) dX1_moves_165 rfl rfl rfl ?_ | refine aw_aloadQ_n (i := 2) (q := 166) dX1_moves_165 rfl rfl rfl ?_
    refine aw_putfield (q := 169) dX1_moves_166 gf_X1_202_5 hsh3 (by first | assumption | simp) (by first | rfl | exact znar_rf _ _ | exact zB_nar _) (by first | rfl | exact zfit_rf _ _ | exact zB_fit _) (Nat.le_of_ble_eq_true rfl) rfl (fun μ4 hg_μ4 => ?_)
    have ha3 : μ4 _ = some _ := hg_μ4 ▸ (updM_ne nsa).trans ha3
    have hsh3 : μ4 _ = some _ := hg_μ4 ▸ updM_eq _ _ _
    simp only [List.set] at hsh3 hg_μ4
    first | refine aw_aload_n (i := 3) (q := 170) dX1_moves_169 rfl rfl rfl ?_ | refine aw_aloadN_n (i := 3) (q := 170) dX1_moves_169 rfl rfl rfl ?_ | refine aw_aloadQ_n (i := 3) (q := 170) dX1_moves_169 rfl rfl rfl ?_
    refine aw_dup (q := 171) dX1_moves_170 (by first | rfl | exact zcat_rf _) rfl ?_
    refine aw_getfield (q := 174) dX1_moves_171 gf_X1_241_5 (by assumption) rfl rfl ?_
    refine aw_iconst (v := 1) (q := 175) dX1_moves_174 rfl rfl ?_
    refine aw_iadd (q := 176) dX1_moves_175 rfl ?_
    refine aw_putfield (q := 179) dX1_moves_176 gf_X1_241_5 hsh3 (by first | assumption | simp) (by first | rfl | exact znar_rf _ _ | exact zB_nar _) (by first | rfl | exact zfit_rf _ _ | exact zB_fit _) (Nat.le_of_ble_eq_true rfl) rfl (fun μ5 hg_μ5 => ?_)
    have ha3 : μ5 _ = some _ := hg_μ5 ▸ (updM_ne nsa).trans ha3
    have hsh3 : μ5 _ = some _ := hg_μ5 ▸ updM_eq _ _ _
    simp only [List.set] at hsh3 hg_μ5
    obtain ⟨r1, r2⟩ := h3.mvd (i := s) hO3 (by rw [ec]; exact hs) hsh0 hfr3 hf23 (hk3 _ _ _ ha (fun q => by have q2 : 20000 ≤ 0 := q.2; omega)) (by rw [hg_μ5, hg_μ4, updM_twice])
    have hp5 := r1.1
    have m15 : zMap1 G μ5 o A ks val := zHM.ko m1 (hk3.tr r2) (by omega) (by omega)
    have m25 : zMap2 G μ5 o A ks' val' := zHM.ko m2 (hk3.tr r2) (by omega) (by omega)
    obtain ⟨f5, c5⟩ := zHM.cell m15
    obtain ⟨k0, hk08, hmk⟩ := zHM.rank m15
    obtain ⟨k1, g1, g2, hput⟩ := C_HM_put (w := s) hmk (by omega) htk ht ha3 (hw.win hPl w1 w2) (by omega)
    first | refine aw_aload_n (i := 0) (q := 180) dX1_moves_179 rfl rfl rfl ?_ | refine aw_aloadN_n (i := 0) (q := 180) dX1_moves_179 rfl rfl rfl ?_ | refine aw_aloadQ_n (i := 0) (q := 180) dX1_moves_179 rfl rfl rfl ?_
    refine aw_getfield (q := 183) dX1_moves_180 gf_X1_37_1 (by assumption) rfl rfl ?_
    first | refine aw_aload_n (i := 2) (q := 184) dX1_moves_183 rfl rfl rfl ?_ | refine aw_aloadN_n (i := 2) (q := 184) dX1_moves_183 rfl rfl rfl ?_ | refine aw_aloadQ_n (i := 2) (q := 184) dX1_moves_183 rfl rfl rfl ?_
    refine aw_iload_n (i := 1) (q := 185) dX1_moves_184 rfl rfl rfl ?_
    refine aw_z ?_
    refine aw_callS (q := 188) dX1_moves_185 (C_valueOf (k := s) (by omega)) cs_X1_224 rfl rfl (by decide) (by decide) (by first | exact Nat.le_of_ble_eq_true rfl | simp [zcat_rf, Value.category]) rfl (zpk ?_)
    refine AW.bud (bc' := 0 + (12 + 140 * (k1 - k0))) (bs' := 0 + (150 + 800 * (k1 - k0))) ?_ (by omega) (by omega)
    refine aw_callF (q := 193) dX1_moves_188 (hput) cf_X1_230_19 (by assumption) rfl rfl (by decide) (by decide) (by first | exact Nat.le_of_ble_eq_true rfl | simp [zcat_rf, Value.category]) rfl (fun v188 μ6 hp => ?_)
    obtain ⟨rfl, m6, k6⟩ := hp
    refine aw_pop (q := 194) dX1_moves_193 (by first | rfl | exact zcat_rf _) rfl ?_
    have hout : zPlq (tMvd (tMovN P L s d0 (nI (t / 6)) N) s t) (zPlan (tMvd (tMovN P L s d0 (nI (t / 6)) N) s t)) (t :: ks) (upN val t s) := by
      have e9 : pcn (tMvd (tMovN P L s d0 (nI (t / 6)) N) s t) 9 = pcn P 9 := by
        rw [← ec 9]; unfold pcn; rw [tMvd_o (by omega)]
      have e3 : tMvd (tMovN P L s d0 (nI (t / 6)) N) s t 3 s 3 = 0 := by
        rw [tMvd_o (by omega), sQ N 3 s 3 (by omega)]; exact h0
      have eo : ∀ x j, x ≠ s → tMvd (tMovN P L s d0 (nI (t / 6)) N) s t 3 x j = P 3 x j := fun x j hx => by
        rw [tMvd_o (by omega), sQ N 3 x j (by omega)]
      refine hPl.ins htk ht (by omega) (by omega) (by omega) e3 tMvd_1.1 tMvd_1.2.1 (fun x hx hxs => ⟨fun z => ⟨by omega, ?_⟩, fun z1 z2 => ⟨?_, eo x 1 hxs, eo x 2 hxs⟩⟩) (fun _ z => z.2 rfl)
      · have z : tMvd (tMovN P L s d0 (nI (t / 6)) N) s t 3 x 3 = 0 := z
        rw [eo x 3 hxs] at z
        exact ⟨z, hxs⟩
      · show tMvd (tMovN P L s d0 (nI (t / 6)) N) s t 3 x 3 = 0
        rw [eo x 3 hxs]
        exact z2.1
    have hz : zMvP G μ p o P A c ks' val' s t none μ6 := by
      unfold zMvP
      rw [hN, hL, hd0]
      exact ⟨rfl, r1.mp k6 (by omega) (by omega), ⟨_, _, m6.hm, hout⟩, zHM.mo m25 k6 (by omega) (by omega), ((hk3.tr r2).ko).tr k6.mt⟩
    exact aw_return dX1_moves_194 rfl (hz)
  -- the bookings
  have loop : ∀ (μb : zM), zKp (zKo o) μ μb → ∀ (rem k : Nat) (lr : Int32) (μ2 : zM) (it : Nat), μb it = none → k + rem = N → zPR G μ2 p o (tMovN P L s d0 (nI (t / 6)) k) A c → zKp (zKo o) μb μ2 → zTim μ2 a t → μ2 it = some (zTI, oItr k lr (c 4) (A 7 4)) → ∀ bc bs, bp + rem ≤ bc → sp + 4 * rem ≤ bs → AW G 10 MX1_moves (zMvP G μ p o P A c ks' val' s t) bc bs 32 [(0, .ref p), (1, .int (nI s)), (2, .ref a), (3, .ref (A 3 s)), (4, .ref it)] [] μ2 := by
    intro μb hkb rem
    induction rem with
    | zero =>
      intro k lr μ2 it hitn hk h2 hkp ha2 hi bc bs hbc hbs
      have ek : k = N := by omega
      have hL2 := h2.lbk
      obtain ⟨_, chL2⟩ := hL2.cell
      rw [(sQ k).cn, hN] at hL2
      first | refine aw_aload (q := 34) dX1_moves_32 rfl rfl ?_ | refine aw_aloadN (q := 34) dX1_moves_32 rfl rfl ?_ | refine aw_aloadQ (q := 34) dX1_moves_32 rfl rfl ?_
      refine aw_z ?_
      refine aw_callF (q := 39) dX1_moves_34 (C_Itr_hasNext hL2 hi) cf_X1_56_11 (by assumption) rfl rfl (by decide) (by decide) (by first | exact Nat.le_of_ble_eq_true rfl | simp [zcat_rf, Value.category]) rfl (zpk ?_)
      refine aw_if_eq (tgt := 164) (q := 42) dX1_moves_39 (by decide) rfl (fun _ => ?_) (fun hZ => absurd ((zB_f (fun q => q (by rw [ek])))) hZ)
      refine AW.bud (bc' := bp) (bs' := sp) ?_ (by omega) (by omega)
      exact AW.bud (aw_locals (by exact ⟨rfl, rfl, rfl, rfl, rfl, trivial⟩) (fin μ2 it (by rw [ek] at h2; exact h2) (hkb.tr hkp) ha2)) (by omega) (by omega)
    | succ rem ih =>
      intro k lr μ2 it hitn hk h2 hkp ha2 hi bc bs hbc hbs
      have hkn : k < N := by omega
      have hL2 := h2.lbk
      obtain ⟨_, chL2⟩ := hL2.cell
      rw [(sQ k).cn, hN] at hL2
      first | refine aw_aload (q := 34) dX1_moves_32 rfl rfl ?_ | refine aw_aloadN (q := 34) dX1_moves_32 rfl rfl ?_ | refine aw_aloadQ (q := 34) dX1_moves_32 rfl rfl ?_
      refine aw_z ?_
      refine aw_callF (q := 39) dX1_moves_34 (C_Itr_hasNext hL2 hi) cf_X1_56_11 (by assumption) rfl rfl (by decide) (by decide) (by first | exact Nat.le_of_ble_eq_true rfl | simp [zcat_rf, Value.category]) rfl (zpk ?_)
      refine aw_if_eq (tgt := 164) (q := 42) dX1_moves_39 (by decide) rfl (fun hZ => absurd hZ (zHn hkn (by omega))) (fun _ => ?_)
      first | refine aw_aload (q := 44) dX1_moves_42 rfl rfl ?_ | refine aw_aloadN (q := 44) dX1_moves_42 rfl rfl ?_ | refine aw_aloadQ (q := 44) dX1_moves_42 rfl rfl ?_
      refine aw_z ?_
      refine aw_callF (q := 49) dX1_moves_44 (C_Itr_next hL2 hi hkn zTI_nz zTI_ls zTI_la) cf_X1_62_11 (by assumption) rfl rfl (by decide) (by decide) (by first | exact Nat.le_of_ble_eq_true rfl | simp [zcat_rf, Value.category]) rfl (fun v44 μ3 hp => ?_)
      obtain ⟨rfl, hg3⟩ := hp
      have h3 := h2.ti hi hg3
      have hkp3 : zKp (zKo o) μb μ3 := hg3 ▸ hkp.it hitn
      have hi3 : μ3 it = _ := hg3 ▸ updM_eq _ _ _
      have ha3 : zTim μ3 a t := hg3 ▸ (updM_ne (zneq ha2 hi (by simp))).trans ha2
      have hp3 := h3.1
      obtain ⟨r, f, hob, -, -⟩ := h3.bk (i := k) (by rw [(sQ k).cn]; omega)
      have eb0 : tMovN P L s d0 (nI (t / 6)) k 4 k 0 = P 4 k 0 := sQ k 4 k 0 (by omega)
      have eb4 : tMovN P L s d0 (nI (t / 6)) k 4 k 4 = if k < N ∧ P 4 k 0 = nI s ∧ P 4 k 4 = 0 ∧ (true = true → P 4 k 3 ≠ 0) then 4 else P 4 k 4 := by
        rw [tMovN_bk, ← hL]; exact tLosN_st N
      have skip : ¬ (P 4 k 0 = nI s ∧ P 4 k 4 = 0 ∧ P 4 k 3 = 0) → AW G 10 MX1_moves (zMvP G μ p o P A c ks' val' s t) bc bs 161 [(0, .ref p), (1, .int (nI s)), (2, .ref a), (3, .ref (A 3 s)), (4, .ref it)] [] μ3 := by
        intro hn
        refine aw_goto (tgt := 32) dX1_moves_161 (by decide) ?_
        exact AW.bud (aw_locals (by exact ⟨rfl, rfl, rfl, rfl, rfl, trivial⟩) (ih (k + 1) _ μ3 it hitn (by omega) (by rw [tMovN_n hn]; exact h3) hkp3 ha3 hi3 bc bs (by omega) (by omega))) (by omega) (by omega)
      refine aw_cast (q := 52) dX1_moves_49 q583 hob ca_6_X6 rfl ?_
      first | refine aw_astore (q := 54) dX1_moves_52 (by decide) rfl ?_ | refine aw_astoreN (q := 54) dX1_moves_52 (by decide) rfl ?_ | refine aw_astoreQ (q := 54) dX1_moves_52 (by decide) rfl ?_
      try simp (config := {decide := true}) only [zput, zdel_q, zdel_f, zdel_t, zdel_nil, zdel_r, zdel_i, zdel_n]
      first | refine aw_aload (q := 56) dX1_moves_54 rfl rfl ?_ | refine aw_aloadN (q := 56) dX1_moves_54 rfl rfl ?_ | refine aw_aloadQ (q := 56) dX1_moves_54 rfl rfl ?_
      refine aw_getfield (q := 59) dX1_moves_56 gf_X1_155_6 (by assumption) rfl rfl ?_
      refine aw_iload_n (i := 1) (q := 60) dX1_moves_59 rfl rfl rfl ?_
      refine aw_icmp_ne (tgt := 161) (q := 63) dX1_moves_60 (by decide) rfl (fun c1 => ?_) (fun c1 => ?_)
      · skip
        refine aw_locals (by exact ⟨rfl, rfl, rfl, rfl, rfl, trivial⟩) (skip (fun q => c1 (by rw [eb0]; exact q.1)))
      · first | refine aw_aload (q := 65) dX1_moves_63 rfl rfl ?_ | refine aw_aloadN (q := 65) dX1_moves_63 rfl rfl ?_ | refine aw_aloadQ (q := 65) dX1_moves_63 rfl rfl ?_
        refine aw_getfield (q := 68) dX1_moves_65 gf_X1_176_6 (by assumption) rfl rfl ?_
        refine aw_if_ne (tgt := 161) (q := 71) dX1_moves_68 (by decide) rfl (fun c2 => ?_) (fun c2 => ?_)
        · skip
          refine aw_locals (by exact ⟨rfl, rfl, rfl, rfl, rfl, trivial⟩) (skip (fun q => c2 (by rw [eb4, if_neg (fun z => z.2.2.2 rfl q.2.2)]; exact q.2.1)))
        · first | refine aw_aload_n (i := 0) (q := 72) dX1_moves_71 rfl rfl rfl ?_ | refine aw_aloadN_n (i := 0) (q := 72) dX1_moves_71 rfl rfl rfl ?_ | refine aw_aloadQ_n (i := 0) (q := 72) dX1_moves_71 rfl rfl rfl ?_
          refine aw_getfield (q := 75) dX1_moves_72 gf_X1_31_1 (by assumption) rfl rfl ?_
          have q0 : P 4 k 0 = nI s := by rw [← eb0]; exact c1
          have hy : P 4 k 0 = nI s ∧ P 4 k 4 = 0 ∧ P 4 k 3 = 0 := by
            rw [eb4] at c2
            by_cases z : k < N ∧ P 4 k 0 = nI s ∧ P 4 k 4 = 0 ∧ (true = true → P 4 k 3 ≠ 0)
            · rw [if_pos z] at c2
              exact absurd c2 (by decide)
            · rw [if_neg z] at c2
              exact ⟨q0, c2, Classical.byContradiction (fun n => z ⟨hkn, q0, c2, fun _ => n⟩)⟩
          have hsk : tSh P k = s := by
            obtain ⟨b1, b2⟩ := hB k (by omega)
            rw [q0] at b1
            exact ((nI_eq (by omega) (by omega)).mp b1).symm
          have hLp := h3.lpr
          obtain ⟨_, chLp⟩ := hLp.cell
          refine AW.bud (bc' := (bc - 1) + 1) (bs' := (bs - 4) + 4) ?_ (by omega) (by omega)
          refine aw_callF (q := 80) dX1_moves_75 (C_AL_iterator (u := zTI) hLp zTI_nz) cf_X1_50_14 (by assumption) rfl rfl (by decide) (by decide) (by first | exact Nat.le_of_ble_eq_true rfl | simp [zcat_rf, Value.category]) rfl (fun v75 μ4 hp => ?_)
          obtain ⟨it2, rfl, itn2, hg4⟩ := hp
          first | refine aw_astore (q := 82) dX1_moves_80 (by decide) rfl ?_ | refine aw_astoreN (q := 82) dX1_moves_80 (by decide) rfl ?_ | refine aw_astoreQ (q := 82) dX1_moves_80 (by decide) rfl ?_
          try simp (config := {decide := true}) only [zput, zdel_q, zdel_f, zdel_t, zdel_nil, zdel_r, zdel_i, zdel_n]
          have h4 := zF.pr h3 (hg4 ▸ zKp.new itn2)
          have ha4 : zTim μ4 a t := hg4 ▸ (updM_ne (zneN ha3 itn2)).trans ha3
          have hi4 : μ4 it = _ := hg4 ▸ (updM_ne (zneN hi3 itn2)).trans hi3
          have hit4 : μ4 it2 = _ := hg4 ▸ updM_eq _ _ _
          have e00 : tMovedN (tMovN P L s d0 (nI (t / 6)) k) k d0 (nI (t / 6)) 0 = tMovN P L s d0 (nI (t / 6)) k := by funext x y z; exact tMovedN_hi (Nat.zero_le _)
          refine aw_locals (L' := [(0, .ref p), (1, .int (nI s)), (2, .ref a), (3, .ref (A 3 s)), (4, .ref it), (5, .ref (A 4 k)), (6, .ref it2)]) (by exact ⟨rfl, rfl, rfl, rfl, rfl, rfl, rfl, trivial⟩) ?_
          refine mvs_in (Q := tMovN P L s d0 (nI (t / 6)) k) (b := k) (t := t) (d0 := d0) (c := c) (μ0 := μ3) ((sQ k).ok hO) (by rw [(sQ k).cn]; omega) (by rw [(sQ k).sh]; exact hsk) (by rw [(sQ k).cn]; exact hs) ((sQ k 3 s 1 (by omega)).trans hd0) (bc - 1) (bs - 4) itn2 (fun μ5 g1 g2 g3 => ?_) (pcn (tMovN P L s d0 (nI (t / 6)) k) 12) 0 (-1) μ4 (by omega) (by rw [e00]; exact h4) (hg4 ▸ zKp.new itn2) ha4 hit4
          exact ih (k + 1) _ μ5 it hitn (by omega) (by rw [tMovN_p hy]; exact g1) (hkp3.tr g2) g3 (g2 _ _ _ hi3 (fun q => by have q2 : 20000 ≤ 0 := q.2; omega)) (bc - 1) (bs - 4) (by omega) (by omega)
  refine meets_of (by decide +kernel) (Nat.le_of_ble_eq_true rfl) ?_
  refine AW.bud (bc' := ((bp + N) + 1) + (pcn P 10 + 1)) (bs' := ((sp + N4) + 4) + (4 * pcn P 10 + 4)) ?_ (by omega) (by omega)
  first | refine aw_aload_n (i := 0) (q := 1) dX1_moves_0 rfl rfl rfl ?_ | refine aw_aloadN_n (i := 0) (q := 1) dX1_moves_0 rfl rfl rfl ?_ | refine aw_aloadQ_n (i := 0) (q := 1) dX1_moves_0 rfl rfl rfl ?_
  refine aw_getfield (q := 4) dX1_moves_1 gf_X1_25_1 (by assumption) rfl rfl ?_
  refine aw_iload_n (i := 1) (q := 5) dX1_moves_4 rfl rfl rfl ?_
  refine aw_z ?_
  refine aw_callF (q := 10) dX1_moves_5 (C_AL_get hLs hs (by omega)) cf_X1_115_14 (by assumption) rfl rfl (by decide) (by decide) (by first | exact Nat.le_of_ble_eq_true rfl | simp [zcat_rf, Value.category]) rfl (zpk ?_)
  refine aw_cast (q := 13) dX1_moves_10 q535 hsh ca_5_X5 rfl ?_
  first | refine aw_astore_n (i := 3) (q := 14) dX1_moves_13 rfl (by decide) rfl ?_ | refine aw_astoreN_n (i := 3) (q := 14) dX1_moves_13 rfl (by decide) rfl ?_ | refine aw_astoreQ_n (i := 3) (q := 14) dX1_moves_13 rfl (by decide) rfl ?_
  first | refine aw_aload_n (i := 0) (q := 15) dX1_moves_14 rfl rfl rfl ?_ | refine aw_aloadN_n (i := 0) (q := 15) dX1_moves_14 rfl rfl rfl ?_ | refine aw_aloadQ_n (i := 0) (q := 15) dX1_moves_14 rfl rfl rfl ?_
  refine aw_iload_n (i := 1) (q := 16) dX1_moves_15 rfl rfl rfl ?_
  refine aw_iconst (v := 2) (q := 17) dX1_moves_16 rfl rfl ?_
  refine aw_iconst (v := 1) (q := 18) dX1_moves_17 rfl rfl ?_
  refine aw_callV (q := 21) dX1_moves_18 (C_losesAll (s := s) (w := 2) (bd := true) h hO hB hs (by decide)) cv_X1_234_1 (by assumption) rfl rfl (by decide) (by decide) (by first | exact Nat.le_of_ble_eq_true rfl | simp [zcat_rf, Value.category]) rfl (fun v18 μ1 hp => ?_)
  obtain ⟨rfl, h1, k1⟩ := hp
  rw [hN, hL] at h1
  have hp1 := h1.1
  have hL1 := h1.lbk
  obtain ⟨_, chL1⟩ := hL1.cell
  first | refine aw_aload_n (i := 0) (q := 22) dX1_moves_21 rfl rfl rfl ?_ | refine aw_aloadN_n (i := 0) (q := 22) dX1_moves_21 rfl rfl rfl ?_ | refine aw_aloadQ_n (i := 0) (q := 22) dX1_moves_21 rfl rfl rfl ?_
  refine aw_getfield (q := 25) dX1_moves_22 gf_X1_28_1 (by assumption) rfl rfl ?_
  refine aw_callF (q := 30) dX1_moves_25 (C_AL_iterator (u := zTI) hL1 zTI_nz) cf_X1_50_14 (by assumption) rfl rfl (by decide) (by decide) (by first | exact Nat.le_of_ble_eq_true rfl | simp [zcat_rf, Value.category]) rfl (fun v25 μ2 hp => ?_)
  obtain ⟨it, rfl, itn, hg2⟩ := hp
  first | refine aw_astore (q := 32) dX1_moves_30 (by decide) rfl ?_ | refine aw_astoreN (q := 32) dX1_moves_30 (by decide) rfl ?_ | refine aw_astoreQ (q := 32) dX1_moves_30 (by decide) rfl ?_
  try simp (config := {decide := true}) only [zput, zdel_q, zdel_f, zdel_t, zdel_nil, zdel_r, zdel_i, zdel_n]
  exact AW.bud (aw_locals (by exact ⟨rfl, rfl, rfl, rfl, rfl, trivial⟩) (loop μ1 k1 N 0 (-1) μ2 it itn (by omega) (zF.pr h1 (hg2 ▸ zKp.new itn)) (hg2 ▸ zKp.new itn) (hg2 ▸ (updM_ne (zneN (zTm_ko ha k1) itn)).trans (zTm_ko ha k1)) (hg2 ▸ updM_eq _ _ _) _ _ (by omega) (by omega))) (by omega) (by omega)
end ZPR1

/-! THE PROGRAMME: displaces -/
set_option maxRecDepth 100000
theorem tTally_u33 {Q : zP} {s' b w : Nat} {v : Int32} : tTally (updP Q 3 s' 3 v) b w = updP (tTally Q b w) 3 s' 3 v := by
  have e : ∀ x y z, ¬ (x = 3 ∧ z = 3) → updP Q 3 s' 3 v x y z = Q x y z := fun x y z h => updP_ne (by omega)
  have es : tSh (updP Q 3 s' 3 v) b = tSh Q b := by unfold tSh; rw [e 4 b 0 (by omega)]
  funext x y z
  have c1 : (x = 6 ∧ z = 5 + w ∧ y < pcn (updP Q 3 s' 3 v) 12 ∧ tForD (updP Q 3 s' 3 v) b y ∧ updP Q 3 s' 3 v 3 (tSh (updP Q 3 s' 3 v) b) 1 ≤ updP Q 3 s' 3 v 6 y 3) ↔ (x = 6 ∧ z = 5 + w ∧ y < pcn Q 12 ∧ tForD Q b y ∧ Q 3 (tSh Q b) 1 ≤ Q 6 y 3) := by
    show (x = 6 ∧ z = 5 + w ∧ y < pcn (updP Q 3 s' 3 v) 12 ∧ (updP Q 3 s' 3 v 6 y 4 = 0 ∧ updP Q 3 s' 3 v 6 y 0 = updP Q 3 s' 3 v 4 b 2 ∧ updP Q 3 s' 3 v 6 y 1 = updP Q 3 s' 3 v 3 (tSh (updP Q 3 s' 3 v) b) 0) ∧ _ ≤ _) ↔ _
    rw [pcn_upd (by omega), es, e 6 y 4 (by omega), e 6 y 0 (by omega), e 4 b 2 (by omega), e 6 y 1 (by omega), e 3 (tSh Q b) 0 (by omega), e 3 (tSh Q b) 1 (by omega), e 6 y 3 (by omega)]
  have e1 : tTally (updP Q 3 s' 3 v) b w x y z = if x = 6 ∧ z = 5 + w ∧ y < pcn Q 12 ∧ tForD Q b y ∧ Q 3 (tSh Q b) 1 ≤ Q 6 y 3 then updP Q 3 s' 3 v x y z + Q 4 b 1 else updP Q 3 s' 3 v x y z := by
    unfold tTally tTallyN
    exact if_congr c1 (by rw [e 4 b 1 (by omega)]) rfl
  have e2 : tTally Q b w x y z = if x = 6 ∧ z = 5 + w ∧ y < pcn Q 12 ∧ tForD Q b y ∧ Q 3 (tSh Q b) 1 ≤ Q 6 y 3 then Q x y z + Q 4 b 1 else Q x y z := rfl
  rw [e1]
  by_cases q : x = 3 ∧ y = s' ∧ z = 3
  · obtain ⟨rfl, rfl, rfl⟩ := q
    rw [if_neg (fun q => by omega), updP_eq, updP_eq]
  · rw [updP_ne q, updP_ne q, e2]
theorem tLose_u33 {Q : zP} {s' b w : Nat} {v : Int32} : tLose (updP Q 3 s' 3 v) b w = updP (tLose Q b w) 3 s' 3 v := by
  have e : updP Q 3 s' 3 v 4 b 5 = Q 4 b 5 := updP_ne (by omega)
  unfold tLose
  rw [tTally_u33, e]
  funext x y z
  unfold tVacate tVacateN
  by_cases q : x = 3 ∧ y = s' ∧ z = 3
  · obtain ⟨rfl, rfl, rfl⟩ := q
    rw [if_neg (by omega), updP_eq, updP_eq]
  · rw [updP_ne q]
    show _ = updP _ 3 s' 3 v x y z
    rw [updP_ne q]
theorem tLosN_u33 {P : zP} {s s' w : Nat} {bd : Bool} {v : Int32} : ∀ n, tLosN (updP P 3 s' 3 v) s w bd n = updP (tLosN P s w bd n) 3 s' 3 v
  | 0 => rfl
  | n + 1 => by
    have ih := tLosN_u33 (P := P) (s := s) (s' := s') (w := w) (bd := bd) (v := v) n
    have e : ∀ j, updP P 3 s' 3 v 4 n j = P 4 n j := fun j => updP_ne (by omega)
    by_cases q : P 4 n 0 = nI s ∧ P 4 n 4 = 0 ∧ (bd = true → P 4 n 3 ≠ 0)
    · have e1 : tLosN (updP P 3 s' 3 v) s w bd (n + 1) = tLose (tLosN (updP P 3 s' 3 v) s w bd n) n w := if_pos (by rw [e, e, e]; exact q)
      have e2 : tLosN P s w bd (n + 1) = tLose (tLosN P s w bd n) n w := if_pos q
      rw [e1, e2, ih, tLose_u33]
    · have e1 : tLosN (updP P 3 s' 3 v) s w bd (n + 1) = tLosN (updP P 3 s' 3 v) s w bd n := if_neg (by rw [e, e, e]; exact q)
      have e2 : tLosN P s w bd (n + 1) = tLosN P s w bd n := if_neg q
      rw [e1, e2, ih]
theorem tDispN_out {P : zP} {D : Nat → Int32} {s : Nat} {d t : Int32} : ∀ n, (tDispN P D s false d t n).1 = tLosN P s 2 false n
  | 0 => rfl
  | n + 1 => by
    have ih := tDispN_out (P := P) (D := D) (s := s) (d := d) (t := t) n
    by_cases q : P 4 n 0 = nI s ∧ P 4 n 4 = 0
    · have e1 : (tDispN P D s false d t (n + 1)).1 = tLose (tDispN P D s false d t n).1 n 2 := by
        unfold tDispN; rw [if_pos q, if_pos (Or.inl rfl)]
      have e2 : tLosN P s 2 false (n + 1) = tLose (tLosN P s 2 false n) n 2 := if_pos ⟨q.1, q.2, fun z => by cases z⟩
      rw [e1, e2, ih]
    · have e1 : (tDispN P D s false d t (n + 1)).1 = (tDispN P D s false d t n).1 := by
        unfold tDispN; rw [if_neg q]
      have e2 : tLosN P s 2 false (n + 1) = tLosN P s 2 false n := if_neg (fun z => q ⟨z.1, z.2.1⟩)
      rw [e1, e2, ih]
/-- displace's outcome, as the component comes by it -/
theorem tDisp_goes {P : zP} {D : Nat → Int32} {s u : Nat} (hb : tBd P) (hu : tDispTo P s = u) (hg : tGoes P s = true) : (tDisplace P D s).1 = tMvd (tMovN P (tLosN P s 2 true (pcn P 10)) s (P 3 s 1) (nI (u / 6)) (pcn P 10)) s u := by
  have sQ : tSame P (tMovN P (tLosN P s 2 true (pcn P 10)) s (P 3 s 1) (nI (u / 6)) (pcn P 10)) := (tLosN_same _).tr (tMovN_same _)
  unfold tDisplace tMvd
  rw [if_pos hg, hu]
  try dsimp only
  rw [tDispN_mov hb _ (Nat.le_refl _), sQ 3 s 6 (by omega)]
theorem tDisp_out {P : zP} {D : Nat → Int32} {s : Nat} (hg : tGoes P s = false) : (tDisplace P D s).1 = tLosN (updP P 3 s 3 4) s 2 false (pcn P 10) := by
  unfold tDisplace
  rw [if_neg (by rw [hg]; decide)]
  try dsimp only
  rw [tDispN_out, tLosN_u33]
theorem tDisp_time {P : zP} {s t : Nat} (h1 : P 3 s 1 = nI (t / 6)) (h2 : P 3 s 2 = nI (t % 6)) (ht : t < 8192) : tDispTo P s = tFirst P (t + 1) := by
  unfold tDispTo
  rw [h1, h2, nI_clamp (by omega), nI_clamp (by omega)]
  congr 1
  omega
section ZPS1
variable {G : zG} {μ μ' : zM} {p o : Nat} {P : zP} {A : Nat → Nat → Nat} {c : Nat → Int32}
/-- what displaces leaves -/
def zDsP (G : zG) (μ : zM) (p o : Nat) (P : zP) (A : Nat → Nat → Nat) (c : Nat → Int32) (ks' : List Nat) (val' : Nat → Nat) (s : Nat) : Option Value → zM → Prop := fun v μ' => v = none ∧ zPR G μ' p o (tDisplace P tZ s).1 A c ∧ (∃ ks val, zMap1 G μ' o A ks val ∧ zPlq (tDisplace P tZ s).1 (zPlan (tDisplace P tZ s).1) ks val) ∧ zMap2 G μ' o A ks' val' ∧ zKp (zOw o) μ μ'
theorem zPR.fr0 (h : zPR G μ p o P A c) : ∃ fse, μ (A 0 0) = some (pgT 1 o, aI G 6 fse) ∧ ∀ j, j < 6 → fse j = P 0 0 j := h.2.1
set_option maxHeartbeats 600000 in
theorem C_displaces {a t w mv : Nat} {ks ks' : List Nat} {val val' : Nat → Nat} (h : zPR G μ p o P A c) (m1 : zMap1 G μ o A ks val) (hPl : zPlq P (zPlan P) ks val) (m2 : zMap2 G μ o A ks' val') (hEv : zEvq P ks' val') (hO : tOk P) (hB : tBkOk P) (hbd : tBd P) (hTm : tTimes P) (hmv : P 0 0 0 = nI mv) (hmv2 : mv ≤ 14) (ht : t ∈ ks) (h8 : t < 8000) (ha : zTim μ a t) (hw : zWd P (zPlan P) w) (w1 : w ≤ t) (w2 : t + 100 ≤ w + 512) : Meets G 11 MX1_displaces [.ref p, .ref a] μ (zDsP G μ p o P A c ks' val' (val t)) (2 * pcn P 10 + 1226) (8 * pcn P 10 + 6741) := by
  have hp := h.1
  obtain ⟨s, es⟩ : ∃ s, val t = s := ⟨_, rfl⟩
  have hdel := hPl.del ht
  obtain ⟨hs, h0, e1, e2, -⟩ := hPl.1 t ht
  have hlen := hPl.2.2.2
  have hdl := zDel_len ht
  rw [es] at hdel hs h0 e1 e2 ⊢
  have h0 : P 3 s 3 = 0 := h0
  have s60 : pcn P 9 ≤ 60 := hO.s.2
  have hsz : obT 3 s o ≠ zC := obT_nz
  obtain ⟨k0, hk08, hmk⟩ := zHM.rank m1
  have hrm := C_HM_remove hmk ha (by omega) (by omega) (by omega)
  rw [if_pos ht, es] at hrm
  obtain ⟨f1, c1⟩ := zHM.cell m1
  obtain ⟨fse, hse, hsf⟩ := h.fr0
  have hse0 : fse 0 = nI mv := (hsf 0 (by decide)).trans hmv
  -- where it goes
  obtain ⟨u, hu⟩ : ∃ u, tDispTo P s = u := ⟨_, rfl⟩
  have hu' : tFirst P (t + 1) = u := (tDisp_time e1 e2 (by omega)).symm.trans hu
  obtain ⟨u1, u2, u3, u4⟩ := tFirst_spec hTm (t := t + 1) (by omega)
  rw [hu'] at u1 u2 u3 u4
  have hF : ∀ y, t + 1 ≤ y → y < 8192 → (tFreeT P y ↔ y ∉ zDel t ks ∧ y ∉ ks') := fun y y1 y2 => by
    rw [zFree_iff hO hPl hEv y2]
    refine ⟨fun q => ⟨fun z => q.1 ((zDel_mem hPl.2.2.1).mp z).1, q.2⟩, fun q => ⟨fun z => q.1 ((zDel_mem hPl.2.2.1).mpr ⟨z, by omega⟩), q.2⟩⟩
  have elast : nI (t / 6) + nI mv = nI (t / 6 + mv) := nI_add _ _
  have hlt : ∀ y, y < 20000 → (nI (t / 6 + mv) < nI (y / 6) ↔ t / 6 + mv < y / 6) := fun y hy => nI_ltI (by omega) (by omega)
  obtain ⟨n, hn1, hn2⟩ : ∃ n, n ≤ 90 ∧ t + 1 + n = (if u / 6 ≤ t / 6 + mv then u else 6 * (t / 6 + mv + 1)) := by
    split
    · exact ⟨u - (t + 1), by omega, by omega⟩
    · exact ⟨6 * (t / 6 + mv + 1) - (t + 1), by omega, by omega⟩
  obtain ⟨y, hy⟩ : ∃ y, t + 1 + n = y := ⟨_, rfl⟩
  have hy2 : y = (if u / 6 ≤ t / 6 + mv then u else 6 * (t / 6 + mv + 1)) := hy.symm.trans hn2
  obtain ⟨N1, hN1⟩ : ∃ x, x = 2 * pcn P 10 + 1134 := ⟨_, rfl⟩
  obtain ⟨N2, hN2⟩ : ∃ x, x = 8 * pcn P 10 + 6558 := ⟨_, rfl⟩
  refine meets_of (by decide +kernel) (Nat.le_of_ble_eq_true rfl) ?_
  refine AW.bud (bc' := (N1 + (n + 1)) + 1) (bs' := (N2 + (2 * n + 1)) + 2) ?_ (by omega) (by omega)
  refine aw_const (fun hcs => ?_)
  have hbox : μ (G.2.2.2 (228 + s)) = _ := hcs _ _ (Or.inl ⟨s + 128, by omega, by rw [show 100 + (s + 128) = 228 + s by omega], rfl⟩)
  first | refine aw_aload_n (i := 0) (q := 1) dX1_displaces_0 rfl rfl rfl ?_ | refine aw_aloadN_n (i := 0) (q := 1) dX1_displaces_0 rfl rfl rfl ?_ | refine aw_aloadQ_n (i := 0) (q := 1) dX1_displaces_0 rfl rfl rfl ?_
  refine aw_getfield (q := 4) dX1_displaces_1 gf_X1_37_1 (by assumption) rfl rfl ?_
  first | refine aw_aload_n (i := 1) (q := 5) dX1_displaces_4 rfl rfl rfl ?_ | refine aw_aloadN_n (i := 1) (q := 5) dX1_displaces_4 rfl rfl rfl ?_ | refine aw_aloadQ_n (i := 1) (q := 5) dX1_displaces_4 rfl rfl rfl ?_
  refine aw_z ?_
  refine aw_callF (q := 10) dX1_displaces_5 (hrm) cf_X1_244_19 (by assumption) rfl rfl (by decide) (by decide) (by first | exact Nat.le_of_ble_eq_true rfl | simp [zcat_rf, Value.category]) rfl (fun v5 μ1 hp => ?_)
  obtain ⟨rfl, m1', k1⟩ := hp
  have hp1 : μ1 p = some (pgT 0 o, oPG A c P) := k1 _ _ _ hp (fun z => by have z2 : 20000 < 3 + 8194 := z.2.2; omega)
  have hse1 : μ1 (A 0 0) = _ := k1 _ _ _ hse (fun z => by have z2 : 20001 < 3 + 8194 := z.2.2; omega)
  have h1 := h.mp k1 (by omega) (by omega)
  have ha1 := zTm_mt ha k1 (by omega)
  have m21 : zMap2 G μ1 o A ks' val' := zHM.mo m2 k1 (by omega) (by omega)
  have m11 : zMap1 G μ1 o A (zDel t ks) val := m1'.hm
  have hbox1 : μ1 (G.2.2.2 (228 + s)) = some (zC, oInt (vb_c (s + 128))) := k1 _ _ _ hbox (fun z => by have z2 : 3 ≤ 0 := z.2.1; omega)
  refine aw_cast (q := 13) dX1_displaces_10 q1404 hbox1 ca_12_J17 rfl ?_
  refine aw_z ?_
  refine aw_callV (q := 16) dX1_displaces_13 (C_intValue hbox1) cv_X1_248_12 (by assumption) rfl rfl (by decide) (by decide) (by first | exact Nat.le_of_ble_eq_true rfl | simp [zcat_rf, Value.category]) rfl (zpk ?_)
  rw [zBox_c]
  refine aw_istore_n (i := 2) (q := 17) dX1_displaces_16 rfl (by decide) rfl ?_
  first | refine aw_aload_n (i := 0) (q := 18) dX1_displaces_17 rfl rfl rfl ?_ | refine aw_aloadN_n (i := 0) (q := 18) dX1_displaces_17 rfl rfl rfl ?_ | refine aw_aloadQ_n (i := 0) (q := 18) dX1_displaces_17 rfl rfl rfl ?_
  first | refine aw_aload_n (i := 1) (q := 19) dX1_displaces_18 rfl rfl rfl ?_ | refine aw_aloadN_n (i := 1) (q := 19) dX1_displaces_18 rfl rfl rfl ?_ | refine aw_aloadQ_n (i := 1) (q := 19) dX1_displaces_18 rfl rfl rfl ?_
  refine aw_callV (q := 22) dX1_displaces_19 (C_Time_next (d := t / 6) (s := t % 6) ha1 (by omega) (by omega) z00_nz) cv_X1_218_8 (by assumption) rfl rfl (by decide) (by decide) (by first | exact Nat.le_of_ble_eq_true rfl | simp [zcat_rf, Value.category]) rfl (fun v19 μ2 hp => ?_)
  obtain ⟨b, rfl, hnb, hg2⟩ := hp
  rw [show 6 * (t / 6) + t % 6 + 1 = t + 1 by omega] at hg2
  have k2 : zKp zF μ1 μ2 := hg2 ▸ zKp.new hnb
  have h2 := zF.pr h1 k2
  have hp2 : μ2 p = some (pgT 0 o, oPG A c P) := k2 _ _ _ hp1 (fun z => z)
  have hse2 : μ2 (A 0 0) = _ := k2 _ _ _ hse1 (fun z => z)
  have ha2 : zTim μ2 a t := k2 _ _ _ ha1 (fun z => z)
  have hb2 : zTim μ2 b (t + 1) := hg2 ▸ updM_eq _ _ _
  first | refine aw_aload_n (i := 1) (q := 23) dX1_displaces_22 rfl rfl rfl ?_ | refine aw_aloadN_n (i := 1) (q := 23) dX1_displaces_22 rfl rfl rfl ?_ | refine aw_aloadQ_n (i := 1) (q := 23) dX1_displaces_22 rfl rfl rfl ?_
  refine aw_getfield (q := 26) dX1_displaces_23 gf_X1_206_8 (by assumption) rfl rfl ?_
  first | refine aw_aload_n (i := 0) (q := 27) dX1_displaces_26 rfl rfl rfl ?_ | refine aw_aloadN_n (i := 0) (q := 27) dX1_displaces_26 rfl rfl rfl ?_ | refine aw_aloadQ_n (i := 0) (q := 27) dX1_displaces_26 rfl rfl rfl ?_
  refine aw_getfield (q := 30) dX1_displaces_27 gf_X1_9_1 (by assumption) rfl rfl ?_
  refine aw_iconst (v := 0) (q := 31) dX1_displaces_30 rfl rfl ?_
  refine aw_iald (q := 32) (v := nI mv) (0) dX1_displaces_31 (by assumption) (by first | assumption | (simp only [← nI_add, ← pk_mul]; rfl) | rfl) (by omega) (by omega) (hse0) rfl ?_
  refine aw_iadd (q := 33) dX1_displaces_32 rfl ?_
  rw [elast]
  have hff := C_freeFrom (n := n) (last := nI (t / 6 + mv)) h2 (zHM.fr m11 k2) (zHM.fr m21 k2) hb2 (by rw [hy, hy2]; split <;> omega) ?_ ?_
  · rw [hy] at hff
    refine aw_callV (q := 36) dX1_displaces_33 (hff) cv_X1_251_1 (by assumption) rfl rfl (by decide) (by decide) (by first | exact Nat.le_of_ble_eq_true rfl | simp [zcat_rf, Value.category]) rfl (fun v33 μ3 hp => ?_)
    obtain ⟨k3, hres⟩ := hp
    have h3 := zF.pr h2 k3
    have m13 : zMap1 G μ3 o A (zDel t ks) val := zHM.fr (zHM.fr m11 k2) k3
    have m23 : zMap2 G μ3 o A ks' val' := zHM.fr (zHM.fr m21 k2) k3
    have hp3 := h3.1
    have k03 : zKp (zOw o) μ μ3 := (k1.mt.tr k2.f0).tr k3.f0
    rcases hres with ⟨q1, rfl, q3⟩ | ⟨q1, ob, x, rfl, q3, q4⟩
    · have q1 := (hlt y (by rw [hy2]; split <;> omega)).mp q1
      have hnu : ¬ u / 6 ≤ t / 6 + mv := fun z => by rw [hy2, if_pos z] at q1; omega
      have hg : tGoes P s = false := decide_eq_false (fun z => z (by rw [hu, e1, hmv, elast]; exact (hlt u (by omega)).mpr (by omega)))
      have hL3 := h3.lsh
      obtain ⟨_, chL3⟩ := hL3.cell
      obtain ⟨t0, fr, f2, hsh3, htm3, hfr3, hf23⟩ := h3.sh hs
      have hsh0 := hsh3
      first | refine aw_astore_n (i := 3) (q := 37) dX1_displaces_36 rfl (by decide) rfl ?_ | refine aw_astoreN_n (i := 3) (q := 37) dX1_displaces_36 rfl (by decide) rfl ?_ | refine aw_astoreQ_n (i := 3) (q := 37) dX1_displaces_36 rfl (by decide) rfl ?_
      first | refine aw_aload_n (i := 3) (q := 38) dX1_displaces_37 rfl rfl rfl ?_ | refine aw_aloadN_n (i := 3) (q := 38) dX1_displaces_37 rfl rfl rfl ?_ | refine aw_aloadQ_n (i := 3) (q := 38) dX1_displaces_37 rfl rfl rfl ?_
      refine aw_z ?_
      refine aw_callV (q := 41) dX1_displaces_38 (C_Opt_isPresentN q3) cv_X1_255_18 (by assumption) rfl rfl (by decide) (by decide) (by first | exact Nat.le_of_ble_eq_true rfl | simp [zcat_rf, Value.category]) rfl (zpk ?_)
      refine aw_if_eq (tgt := 59) (q := 44) dX1_displaces_41 (by decide) rfl (fun _ => ?_) (fun hZ => absurd (rfl) hZ)
      first | refine aw_aload_n (i := 0) (q := 60) dX1_displaces_59 rfl rfl rfl ?_ | refine aw_aloadN_n (i := 0) (q := 60) dX1_displaces_59 rfl rfl rfl ?_ | refine aw_aloadQ_n (i := 0) (q := 60) dX1_displaces_59 rfl rfl rfl ?_
      refine aw_getfield (q := 63) dX1_displaces_60 gf_X1_25_1 (by assumption) rfl rfl ?_
      refine aw_iload_n (i := 2) (q := 64) dX1_displaces_63 rfl rfl rfl ?_
      refine aw_z ?_
      refine aw_callF (q := 69) dX1_displaces_64 (C_AL_get hL3 hs (by omega)) cf_X1_115_14 (by assumption) rfl rfl (by decide) (by decide) (by first | exact Nat.le_of_ble_eq_true rfl | simp [zcat_rf, Value.category]) rfl (zpk ?_)
      refine aw_cast (q := 72) dX1_displaces_69 q535 hsh3 ca_5_X5 rfl ?_
      refine aw_iconst (v := 4) (q := 73) dX1_displaces_72 rfl rfl ?_
      refine aw_putfield (q := 76) dX1_displaces_73 gf_X1_263_5 hsh3 (by first | assumption | simp) (by first | rfl | exact znar_rf _ _ | exact zB_nar _) (by first | rfl | exact zfit_rf _ _ | exact zB_fit _) (Nat.le_of_ble_eq_true rfl) rfl (fun μ4 hg_μ4 => ?_)
      have hsh3 : μ4 _ = some _ := hg_μ4 ▸ updM_eq _ _ _
      simp only [List.set] at hsh3 hg_μ4
      obtain ⟨r1, r2⟩ := h3.sset (i := s) (j0 := 3) (v := 4) hO hs hsh0 htm3 hfr3 hf23 hg_μ4 (updP_ne (by omega)) ⟨by decide, by decide⟩ (updP_eq _ _ _ _ _) (updP_ne (by omega)) (updP_ne (by omega)) (updP_ne (by omega))
      have hp4 := r1.1
      have ec : pcn (updP P 3 s 3 4) 10 = pcn P 10 := pcn_upd (by omega)
      refine AW.bud (bc' := 0 + (pcn (updP P 3 s 3 4) 10 + 1)) (bs' := 0 + (4 * pcn (updP P 3 s 3 4) 10 + 4)) ?_ (by omega) (by omega)
      first | refine aw_aload_n (i := 0) (q := 77) dX1_displaces_76 rfl rfl rfl ?_ | refine aw_aloadN_n (i := 0) (q := 77) dX1_displaces_76 rfl rfl rfl ?_ | refine aw_aloadQ_n (i := 0) (q := 77) dX1_displaces_76 rfl rfl rfl ?_
      refine aw_iload_n (i := 2) (q := 78) dX1_displaces_77 rfl rfl rfl ?_
      refine aw_iconst (v := 2) (q := 79) dX1_displaces_78 rfl rfl ?_
      refine aw_iconst (v := 0) (q := 80) dX1_displaces_79 rfl rfl ?_
      refine aw_callV (q := 83) dX1_displaces_80 (C_losesAll (s := s) (w := 2) (bd := false) r1 (hO.upd (Or.inl (by decide))) (hB.upd2 (by decide) (fun e => absurd e (by decide))) (by rw [pcn_upd (by omega)]; exact hs) (by decide)) cv_X1_234_1 (by assumption) rfl rfl (by decide) (by decide) (by first | exact Nat.le_of_ble_eq_true rfl | simp [zcat_rf, Value.category]) rfl (fun v80 μ5 hp => ?_)
      obtain ⟨rfl, h5, k5⟩ := hp
      rw [ec, ← tDisp_out (D := tZ) hg] at h5
      have eo : ∀ x j, ¬ (x = s ∧ j = 3) → (tDisplace P tZ s).1 3 x j = P 3 x j := fun x j hx => by
        rw [tDisp_out hg, tLosN_same _ 3 x j (by omega), updP_ne (by omega)]
      have es3 : (tDisplace P tZ s).1 3 s 3 = 4 := by
        rw [tDisp_out hg, tLosN_same _ 3 s 3 (by omega), updP_eq]
      have e9 : pcn (tDisplace P tZ s).1 9 = pcn P 9 := by
        rw [tDisp_out hg, (tLosN_same _).cn, pcn_upd (by omega)]
      have hout : zPlq (tDisplace P tZ s).1 (zPlan (tDisplace P tZ s).1) (zDel t ks) val := hdel.congr e9 (fun x hx => ⟨⟨fun z => ?_, fun z => ?_⟩, fun _ => ⟨eo x 1 (by omega), eo x 2 (by omega)⟩⟩)
      · exact aw_return dX1_displaces_83 rfl (⟨rfl, h5, ⟨_, _, zHM.ko m13 (r2.tr k5) (by omega) (by omega), hout⟩, zHM.ko m23 (r2.tr k5) (by omega) (by omega), k03.tr (r2.tr k5).ko⟩)
      · have z : (tDisplace P tZ s).1 3 x 3 = 0 := z
        have hxs : x ≠ s := fun e => by rw [e, es3] at z; exact absurd z (by decide)
        rw [eo x 3 (by omega)] at z
        exact ⟨z, hxs⟩
      · show (tDisplace P tZ s).1 3 x 3 = 0
        have hxs : x ≠ s := z.2
        rw [eo x 3 (by omega)]
        exact z.1
    · have q1 : ¬ t / 6 + mv < y / 6 := fun z => q1 ((hlt y (by rw [hy2]; split <;> omega)).mpr z)
      have hgo : u / 6 ≤ t / 6 + mv := Classical.byContradiction (fun z => q1 (by rw [hy2, if_neg z]; omega))
      have hyu : y = u := by rw [hy2, if_pos hgo]
      subst hyu
      have hg : tGoes P s = true := decide_eq_true (fun z => by rw [hu, e1, hmv, elast] at z; have := (hlt y (by omega)).mp z; omega)
      have hfy := (hF y (by omega) (by omega)).mp u3
      first | refine aw_astore_n (i := 3) (q := 37) dX1_displaces_36 rfl (by decide) rfl ?_ | refine aw_astoreN_n (i := 3) (q := 37) dX1_displaces_36 rfl (by decide) rfl ?_ | refine aw_astoreQ_n (i := 3) (q := 37) dX1_displaces_36 rfl (by decide) rfl ?_
      first | refine aw_aload_n (i := 3) (q := 38) dX1_displaces_37 rfl rfl rfl ?_ | refine aw_aloadN_n (i := 3) (q := 38) dX1_displaces_37 rfl rfl rfl ?_ | refine aw_aloadQ_n (i := 3) (q := 38) dX1_displaces_37 rfl rfl rfl ?_
      refine aw_z ?_
      refine aw_callV (q := 41) dX1_displaces_38 (C_Opt_isPresent q3) cv_X1_255_18 (by assumption) rfl rfl (by decide) (by decide) (by first | exact Nat.le_of_ble_eq_true rfl | simp [zcat_rf, Value.category]) rfl (zpk ?_)
      refine aw_if_eq (tgt := 59) (q := 44) dX1_displaces_41 (by decide) rfl (fun hZ => absurd hZ ((by decide))) (fun _ => ?_)
      first | refine aw_aload_n (i := 0) (q := 45) dX1_displaces_44 rfl rfl rfl ?_ | refine aw_aloadN_n (i := 0) (q := 45) dX1_displaces_44 rfl rfl rfl ?_ | refine aw_aloadQ_n (i := 0) (q := 45) dX1_displaces_44 rfl rfl rfl ?_
      refine aw_iload_n (i := 2) (q := 46) dX1_displaces_45 rfl rfl rfl ?_
      first | refine aw_aload_n (i := 3) (q := 47) dX1_displaces_46 rfl rfl rfl ?_ | refine aw_aloadN_n (i := 3) (q := 47) dX1_displaces_46 rfl rfl rfl ?_ | refine aw_aloadQ_n (i := 3) (q := 47) dX1_displaces_46 rfl rfl rfl ?_
      refine aw_z ?_
      refine aw_callV (q := 50) dX1_displaces_47 (C_Opt_get q3) cv_X1_258_18 (by assumption) rfl rfl (by decide) (by decide) (by first | exact Nat.le_of_ble_eq_true rfl | simp [zcat_rf, Value.category]) rfl (zpk ?_)
      refine aw_cast (q := 53) dX1_displaces_50 q1374 q4 ca_8_X8 rfl ?_
      refine AW.bud (bc' := 0 + (2 * pcn P 10 + 1134)) (bs' := 0 + (8 * pcn P 10 + 6558)) ?_ (by omega) (by omega)
      refine aw_callV (q := 56) dX1_displaces_53 (C_moves (t := y) (w := w) h3 m13 hdel m23 hO hB hs h0 q4 (by omega) hfy.1 (by omega) (fun x hx z => hw x hx z.1) (by omega) (by omega)) cv_X1_260_1 (by assumption) rfl rfl (by decide) (by decide) (by first | exact Nat.le_of_ble_eq_true rfl | simp [zcat_rf, Value.category]) rfl (fun v53 μ4 hp => ?_)
      obtain ⟨rfl, h4, g4, g5, k4⟩ := hp
      rw [← tDisp_goes (D := tZ) hbd hu hg] at h4 g4
      refine aw_goto (tgt := 83) dX1_displaces_56 (by decide) ?_
      exact aw_return dX1_displaces_83 rfl (⟨rfl, h4, g4, g5, k03.tr k4⟩)
  · rw [hy]
    by_cases z : u / 6 ≤ t / 6 + mv
    · rw [if_pos z] at hy2
      rw [hy2]
      exact Or.inl ((hF u (by omega) (by omega)).mp u3)
    · rw [if_neg z] at hy2
      exact Or.inr ((hlt y (by omega)).mpr (by omega))
  · rw [hy]
    intro x x1 x2
    have hx : x < u ∧ x / 6 ≤ t / 6 + mv := by
      by_cases z : u / 6 ≤ t / 6 + mv
      · rw [if_pos z] at hy2
        omega
      · rw [if_neg z] at hy2
        omega
    exact ⟨fun q => u4 x x1 hx.1 ((hF x x1 (by omega)).mpr q), fun q => by have := (hlt x (by omega)).mp q; omega⟩
end ZPS1

