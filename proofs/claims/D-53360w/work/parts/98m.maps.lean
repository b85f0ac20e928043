/-! THE PROGRAMME: its maps; isFree, freeFrom -/
set_option maxRecDepth 100000
/-- the map of what is planned: keys are times, values shows (those that pl names) -/
def zPlq (P : zP) (pl : Nat → Prop) (ks : List Nat) (val : Nat → Nat) : Prop := (∀ h, h ∈ ks → val h < pcn P 9 ∧ pl (val h) ∧ P 3 (val h) 1 = nI (h / 6) ∧ P 3 (val h) 2 = nI (h % 6) ∧ h < 8192) ∧ (∀ s, s < pcn P 9 → pl s → ∃ h, h ∈ ks ∧ val h = s) ∧ ks.Nodup ∧ ks.length ≤ pcn P 9
abbrev zPlan (P : zP) : Nat → Prop := fun s => P 3 s 3 = 0
abbrev zPlan1 (P : zP) (x : Nat) : Nat → Prop := fun s => P 3 s 3 = 0 ∧ s ≠ x
/-- event e covers time h -/
def zCov (P : zP) (e h : Nat) : Prop := P 5 e 0 = nI (h / 6) ∧ P 5 e 1 ≤ nI (h % 6) ∧ nI (h % 6) ≤ P 5 e 1 + P 5 e 2 - 1
def zEvq (P : zP) (ks : List Nat) (val : Nat → Nat) : Prop := (∀ h, h ∈ ks → val h < pcn P 11 ∧ zCov P (val h) h ∧ h < 8192) ∧ (∀ e h, e < pcn P 11 → h < 8192 → zCov P e h → h ∈ ks ∧ val h = e) ∧ ks.length ≤ 6 * pcn P 11
theorem zTm_eq {h h' : Nat} (a : h < 2 ^ 30) (b : h' < 2 ^ 30) (e1 : nI (h / 6) = nI (h' / 6)) (e2 : nI (h % 6) = nI (h' % 6)) : h = h' := by
  have f1 := (nI_eq (by omega) (by omega)).mp e1
  have f2 := (nI_eq (by omega) (by omega)).mp e2
  omega
theorem zPlq.key {P : zP} {pl : Nat → Prop} {ks : List Nat} {val : Nat → Nat} (hP : zPlq P pl ks val) {s h : Nat} (hs : s < pcn P 9) (h0 : pl s) (h1 : P 3 s 1 = nI (h / 6)) (h2 : P 3 s 2 = nI (h % 6)) (hh : h < 8192) : h ∈ ks ∧ val h = s := by
  obtain ⟨h', m1, m2⟩ := hP.2.1 s hs h0
  obtain ⟨-, -, b3, b4, b5⟩ := hP.1 h' m1
  rw [m2] at b3 b4
  have e := zTm_eq (by omega) (by omega) (b3.symm.trans h1) (b4.symm.trans h2)
  subst e
  exact ⟨m1, m2⟩
theorem zPlq.at {P : zP} {ks : List Nat} {val : Nat → Nat} (hP : zPlq P (zPlan P) ks val) {h : Nat} (hh : h < 8192) : tPlannedAt P (nI (h / 6)) (nI (h % 6)) = if h ∈ ks then nI (val h) else -6 := by
  by_cases q : h ∈ ks
  · rw [if_pos q]
    obtain ⟨a1, a2, a3, a4, a5⟩ := hP.1 h q
    have key : ∀ n, n ≤ pcn P 9 → tPlannedAtF P (nI (h / 6)) (nI (h % 6)) n = if val h < n then nI (val h) else -6 := by
      intro n
      induction n with
      | zero => intro _; rw [if_neg (by omega)]; rfl
      | succ n ih =>
        intro hn
        unfold tPlannedAtF
        by_cases e : n = val h
        · rw [e, if_pos ⟨a2, a3, a4⟩, if_pos (by omega)]
        · rw [if_neg (fun z => e (hP.key (by omega) z.1 z.2.1 z.2.2 hh).2.symm), ih (by omega)]
          by_cases v : val h < n
          · rw [if_pos v, if_pos (by omega)]
          · rw [if_neg v, if_neg (by omega)]
    unfold tPlannedAt
    rw [key _ (Nat.le_refl _), if_pos a1]
  · rw [if_neg q]
    exact tPlannedAtF_none _ (fun s hs z => q (hP.key hs z.1 z.2.1 z.2.2 hh).1)
theorem zEvq.at {P : zP} {ks : List Nat} {val : Nat → Nat} (hE : zEvq P ks val) {h : Nat} (hh : h < 8192) : tEventAt P (nI (h / 6)) (nI (h % 6)) = if h ∈ ks then nI (val h) else -6 := by
  by_cases q : h ∈ ks
  · rw [if_pos q]
    obtain ⟨a1, a2, a5⟩ := hE.1 h q
    have key : ∀ n, n ≤ pcn P 11 → tEventAtF P (nI (h / 6)) (nI (h % 6)) n = if val h < n then nI (val h) else -6 := by
      intro n
      induction n with
      | zero => intro _; rw [if_neg (by omega)]; rfl
      | succ n ih =>
        intro hn
        unfold tEventAtF
        by_cases e : n = val h
        · rw [e, if_pos (show P 5 (val h) 0 = nI (h / 6) ∧ P 5 (val h) 1 ≤ nI (h % 6) ∧ nI (h % 6) ≤ P 5 (val h) 1 + P 5 (val h) 2 - 1 from a2), if_pos (by omega)]
        · rw [if_neg (show ¬ (P 5 n 0 = nI (h / 6) ∧ P 5 n 1 ≤ nI (h % 6) ∧ nI (h % 6) ≤ P 5 n 1 + P 5 n 2 - 1) from fun z => e (hE.2.1 n h (by omega) hh z).2.symm), ih (by omega)]
          by_cases v : val h < n
          · rw [if_pos v, if_pos (by omega)]
          · rw [if_neg v, if_neg (by omega)]
    unfold tEventAt
    rw [key _ (Nat.le_refl _), if_pos a1]
  · rw [if_neg q]
    exact tEventAtF_none _ (fun e he z => q (hE.2.1 e h he hh z).1)
theorem zNeg6 : (-6 : Int32) < 0 := by decide
theorem zFree_iff {P : zP} {ks ks' : List Nat} {val val' : Nat → Nat} (hO : tOk P) (hP : zPlq P (zPlan P) ks val) (hE : zEvq P ks' val') {h : Nat} (hh : h < 8192) : tFreeT P h ↔ h ∉ ks ∧ h ∉ ks' := by
  have h9 : pcn P 9 ≤ 60 := hO.s.2
  have h11 : pcn P 11 ≤ 20 := hO.e.2
  have nn : ∀ v, v < 100 → ¬ nI v < 0 := fun v hv => Int32.not_lt.mpr (nI_le (a := 0) (b := v) (by omega) (by omega))
  show (_ < 0 ∧ _ < 0) ↔ _
  rw [hP.at hh, hE.at hh]
  by_cases q : h ∈ ks
  · have a := (hP.1 h q).1
    rw [if_pos q]
    exact ⟨fun z => absurd z.2 (nn _ (by omega)), fun z => absurd q z.1⟩
  · rw [if_neg q]
    by_cases q' : h ∈ ks'
    · have a := (hE.1 h q').1
      rw [if_pos q']
      exact ⟨fun z => absurd z.1 (nn _ (by omega)), fun z => absurd q' z.2⟩
    · rw [if_neg q']
      exact ⟨fun _ => ⟨q, q'⟩, fun _ => ⟨zNeg6, zNeg6⟩⟩
section ZPN
variable {G : zG} {μ μ' : zM} {p o : Nat} {P : zP} {A : Nat → Nat → Nat} {c : Nat → Int32}
/-- both maps in memory -/
def zMap1 (G : zG) (μ : zM) (o : Nat) (A : Nat → Nat → Nat) (ks : List Nat) (val : Nat → Nat) : Prop := zHM G μ 3 o (A 0 1) true ks val
def zMap2 (G : zG) (μ : zM) (o : Nat) (A : Nat → Nat → Nat) (ks : List Nat) (val : Nat → Nat) : Prop := zHM G μ 10001 o (A 0 2) false ks val
/-- the maps of a programme -/
def zPM (G : zG) (μ : zM) (o : Nat) (P : zP) (A : Nat → Nat → Nat) : Prop := (∃ ks val, zMap1 G μ o A ks val ∧ zPlq P (zPlan P) ks val) ∧ ∃ ks val, zMap2 G μ o A ks val ∧ zEvq P ks val
theorem zHM.cell {R m : Nat} {pl : Bool} {ks : List Nat} {val : Nat → Nat} (h : zHM G μ R o m pl ks val) : ∃ fs, μ m = some (hmT R o, .inr (19, fs)) := by
  rcases h with ⟨tb, k, es, mc, ⟨h1, -⟩, -⟩ | ⟨-, es, mc, thr, ⟨h2, -⟩, -⟩
  · exact ⟨_, h1⟩
  · exact ⟨_, h2⟩
theorem zHM.ko {R m : Nat} {pl : Bool} {ks : List Nat} {val : Nat → Nat} (h : zHM G μ R o m pl ks val) (hk : zKp (zKo o) μ μ') (hR : 1 ≤ R) (hR2 : R + 8194 ≤ 20000) : zHM G μ' R o m pl ks val := by
  refine h.kp hk (fun c u t q => ?_) (fun c q => ?_)
  · have t2 : u.1 < R + 8194 := t.2.2
    have q2 : 20000 ≤ u.1 := q.2
    omega
  · have q2 : 20000 ≤ 0 := q.2
    omega
theorem zHM.fr {R m : Nat} {pl : Bool} {ks : List Nat} {val : Nat → Nat} (h : zHM G μ R o m pl ks val) (hk : zKp zF μ μ') : zHM G μ' R o m pl ks val := h.kp hk (fun _ _ _ q => q) (fun _ q => q)
theorem zHM.mo {R R' m : Nat} {pl : Bool} {ks : List Nat} {val : Nat → Nat} (h : zHM G μ R o m pl ks val) (hk : zKp (zMt R' o) μ μ') (hR' : 1 ≤ R') (hd : R + 8194 ≤ R' ∨ R' + 8194 ≤ R) : zHM G μ' R o m pl ks val := by
  refine h.kp hk (fun c u t q => ?_) (fun c q => ?_)
  · have t1 : R ≤ u.1 := t.2.1
    have t2 : u.1 < R + 8194 := t.2.2
    have q1 : R' ≤ u.1 := q.2.1
    have q2 : u.1 < R' + 8194 := q.2.2
    omega
  · have q1 : R' ≤ 0 := q.2.1
    omega
theorem zPR.mp {R : Nat} (h : zPR G μ p o P A c) (hk : zKp (zMt R o) μ μ') (hR : 1 ≤ R) (hR2 : R + 8194 ≤ 20000) : zPR G μ' p o P A c := by
  refine h.kp hk (fun b u q t => ?_)
  have t1 : R ≤ u.1 := t.2.1
  have t2 : u.1 < R + 8194 := t.2.2
  rcases q with q | ⟨-, q⟩
  · rw [q] at t1
    have t1 : R ≤ 0 := t1
    omega
  · omega
/-- all that is the programme's -/
abbrev zOw (o : Nat) : Nat → zT → Prop := fun _ u => u.2 = o
theorem zKp.ko {o : Nat} (h : zKp (zKo o) μ μ') : zKp (zOw o) μ μ' := h.mono (fun _ _ q => q.1)
theorem zKp.mt {R o : Nat} (h : zKp (zMt R o) μ μ') : zKp (zOw o) μ μ' := h.mono (fun _ _ q => q.1)
theorem zKp.f0 {T : Nat → zT → Prop} (h : zKp zF μ μ') : zKp T μ μ' := h.mono (fun _ _ q => q.elim)
abbrev zTim (μ : zM) (a t : Nat) : Prop := μ a = some ((0, 0), oTime (nI (t / 6)) (nI (t % 6)))
set_option maxHeartbeats 2000000 in
theorem C_isFree {a t : Nat} {ks ks' : List Nat} {val val' : Nat → Nat} (h : zPR G μ p o P A c) (m1 : zMap1 G μ o A ks val) (m2 : zMap2 G μ o A ks' val') (ha : zTim μ a t) (ht : t < 8192) : Meets G 6 MX1_isFree [.ref p, .ref a] μ (zPure (.int (zB (t ∉ ks ∧ t ∉ ks'))) μ) 0 0 := by
  have hp := h.1
  obtain ⟨f1, c1⟩ := zHM.cell m1
  obtain ⟨f2, c2⟩ := zHM.cell m2
  refine meets_of (by decide +kernel) (Nat.le_of_ble_eq_true rfl) ?_
  first | refine aw_aload_n (i := 0) (q := 1) dX1_isFree_0 rfl rfl rfl ?_ | refine aw_aloadN_n (i := 0) (q := 1) dX1_isFree_0 rfl rfl rfl ?_ | refine aw_aloadQ_n (i := 0) (q := 1) dX1_isFree_0 rfl rfl rfl ?_
  refine aw_getfield (q := 4) dX1_isFree_1 gf_X1_37_1 (by assumption) rfl rfl ?_
  first | refine aw_aload_n (i := 1) (q := 5) dX1_isFree_4 rfl rfl rfl ?_ | refine aw_aloadN_n (i := 1) (q := 5) dX1_isFree_4 rfl rfl rfl ?_ | refine aw_aloadQ_n (i := 1) (q := 5) dX1_isFree_4 rfl rfl rfl ?_
  refine aw_z ?_
  refine aw_callF (q := 10) dX1_isFree_5 (C_HM_contains m1 ha ht) cf_X1_211_19 (by assumption) rfl rfl (by decide) (by decide) (by first | exact Nat.le_of_ble_eq_true rfl | simp [zcat_rf, Value.category]) rfl (zpk ?_)
  refine aw_if_ne (tgt := 30) (q := 13) dX1_isFree_10 (by decide) rfl (fun b1 => ?_) (fun b1 => ?_)
  · refine aw_iconst (v := 0) (q := 31) dX1_isFree_30 rfl rfl ?_
    have q : t ∈ ks := Classical.byContradiction (fun n => b1 (zB_f n))
    exact aw_ireturn dX1_isFree_31 rfl (by first | rfl | exact zB_nar _) (⟨by rw [zB_f (p := t ∉ ks ∧ t ∉ ks') (fun z => z.1 q)], rfl⟩)
  · first | refine aw_aload_n (i := 0) (q := 14) dX1_isFree_13 rfl rfl rfl ?_ | refine aw_aloadN_n (i := 0) (q := 14) dX1_isFree_13 rfl rfl rfl ?_ | refine aw_aloadQ_n (i := 0) (q := 14) dX1_isFree_13 rfl rfl rfl ?_
    refine aw_getfield (q := 17) dX1_isFree_14 gf_X1_41_1 (by assumption) rfl rfl ?_
    first | refine aw_aload_n (i := 1) (q := 18) dX1_isFree_17 rfl rfl rfl ?_ | refine aw_aloadN_n (i := 1) (q := 18) dX1_isFree_17 rfl rfl rfl ?_ | refine aw_aloadQ_n (i := 1) (q := 18) dX1_isFree_17 rfl rfl rfl ?_
    refine aw_z ?_
    refine aw_callF (q := 23) dX1_isFree_18 (C_HM_contains m2 ha ht) cf_X1_211_19 (by assumption) rfl rfl (by decide) (by decide) (by first | exact Nat.le_of_ble_eq_true rfl | simp [zcat_rf, Value.category]) rfl (zpk ?_)
    refine aw_if_ne (tgt := 30) (q := 26) dX1_isFree_23 (by decide) rfl (fun b2 => ?_) (fun b2 => ?_)
    · refine aw_iconst (v := 0) (q := 31) dX1_isFree_30 rfl rfl ?_
      have q : t ∈ ks' := Classical.byContradiction (fun n => b2 (zB_f n))
      exact aw_ireturn dX1_isFree_31 rfl (by first | rfl | exact zB_nar _) (⟨by rw [zB_f (p := t ∉ ks ∧ t ∉ ks') (fun z => z.2 q)], rfl⟩)
    · refine aw_iconst (v := 1) (q := 27) dX1_isFree_26 rfl rfl ?_
      refine aw_goto (tgt := 31) dX1_isFree_27 (by decide) ?_
      exact aw_ireturn dX1_isFree_31 rfl (by first | rfl | exact zB_nar _) (⟨by rw [zB_t (p := t ∉ ks ∧ t ∉ ks') ⟨zB_ne.mp b1, zB_ne.mp b2⟩], rfl⟩)
/-- what freeFrom leaves: w is the first free time, or too late -/
def zFfP (G : zG) (μ : zM) (last : Int32) (w : Nat) : Option Value → zM → Prop := fun v μ' => zKp zF μ μ' ∧ ((last < nI (w / 6) ∧ v = some (.ref (G.2.2.2 1)) ∧ μ' (G.2.2.2 1) = some (zC, .inr (18, [.null]))) ∨ (¬ last < nI (w / 6) ∧ ∃ b x, v = some (.ref b) ∧ μ' b = some (zTI, .inr (18, [.ref x])) ∧ zTim μ' x w))
set_option maxHeartbeats 2000000 in
theorem C_freeFrom {a t n : Nat} {last : Int32} {ks ks' : List Nat} {val val' : Nat → Nat} (h : zPR G μ p o P A c) (m1 : zMap1 G μ o A ks val) (m2 : zMap2 G μ o A ks' val') (ha : zTim μ a t) (hw : t + n < 8192) (hfree : (t + n ∉ ks ∧ t + n ∉ ks') ∨ last < nI ((t + n) / 6)) (hb : ∀ u, t ≤ u → u < t + n → ¬ (u ∉ ks ∧ u ∉ ks') ∧ ¬ last < nI (u / 6)) : Meets G 7 MX1_freeFrom [.ref p, .ref a, .int last] μ (zFfP G μ last (t + n)) (n + 1) (2 * n + 1) := by
  obtain ⟨w, ew⟩ : ∃ w, t + n = w := ⟨_, rfl⟩
  rw [ew] at hw hfree hb ⊢
  have loop : ∀ (n t b : Nat) (μ2 : zM), t + n = w → zKp zF μ μ2 → zTim μ2 b t → (∀ u, t ≤ u → u < w → ¬ (u ∉ ks ∧ u ∉ ks') ∧ ¬ last < nI (u / 6)) → ∀ bc bs, n + 1 ≤ bc → 2 * n + 1 ≤ bs → AW G 7 MX1_freeFrom (zFfP G μ last w) bc bs 2 [(0, .ref p), (1, .ref a), (2, .int last), (3, .ref b)] [] μ2 := by
    intro n
    induction n with
    | zero =>
      intro t b μ2 e hk hb2 hbe bc bs h1 h2
      have e : t = w := e
      subst e
      by_cases hl : last < nI (t / 6)
      · skip
        first | refine aw_aload_n (i := 3) (q := 3) dX1_freeFrom_2 rfl rfl rfl ?_ | refine aw_aloadN_n (i := 3) (q := 3) dX1_freeFrom_2 rfl rfl rfl ?_ | refine aw_aloadQ_n (i := 3) (q := 3) dX1_freeFrom_2 rfl rfl rfl ?_
        refine aw_getfield (q := 6) dX1_freeFrom_3 gf_X1_206_8 (by assumption) rfl rfl ?_
        refine aw_iload_n (i := 2) (q := 7) dX1_freeFrom_6 rfl rfl rfl ?_
        refine aw_icmp_gt (tgt := 26) (q := 10) dX1_freeFrom_7 (by decide) rfl (fun _ => ?_) (fun hZ => absurd (hl) hZ)
        first | refine aw_aload_n (i := 3) (q := 27) dX1_freeFrom_26 rfl rfl rfl ?_ | refine aw_aloadN_n (i := 3) (q := 27) dX1_freeFrom_26 rfl rfl rfl ?_ | refine aw_aloadQ_n (i := 3) (q := 27) dX1_freeFrom_26 rfl rfl rfl ?_
        refine aw_getfield (q := 30) dX1_freeFrom_27 gf_X1_206_8 (by assumption) rfl rfl ?_
        refine aw_iload_n (i := 2) (q := 31) dX1_freeFrom_30 rfl rfl rfl ?_
        refine aw_icmp_gt (tgt := 41) (q := 34) dX1_freeFrom_31 (by decide) rfl (fun _ => ?_) (fun hZ => absurd (hl) hZ)
        refine aw_z ?_
        refine aw_callS (q := 44) dX1_freeFrom_41 (C_Opt_empty) cs_X1_138 rfl rfl (by decide) (by decide) (by first | exact Nat.le_of_ble_eq_true rfl | simp [zcat_rf, Value.category]) rfl (fun v41 μ3 hp => ?_)
        obtain ⟨rfl, rfl, hem⟩ := hp
        exact aw_areturnR dX1_freeFrom_44 rfl (by first | exact Or.inl ⟨_, rfl⟩ | exact Or.inr ⟨_, rfl⟩) (⟨hk, Or.inl ⟨hl, rfl, hem⟩⟩)
      · have hfr := hfree.resolve_right hl
        have hp2 := (zF.pr h hk).1
        first | refine aw_aload_n (i := 3) (q := 3) dX1_freeFrom_2 rfl rfl rfl ?_ | refine aw_aloadN_n (i := 3) (q := 3) dX1_freeFrom_2 rfl rfl rfl ?_ | refine aw_aloadQ_n (i := 3) (q := 3) dX1_freeFrom_2 rfl rfl rfl ?_
        refine aw_getfield (q := 6) dX1_freeFrom_3 gf_X1_206_8 (by assumption) rfl rfl ?_
        refine aw_iload_n (i := 2) (q := 7) dX1_freeFrom_6 rfl rfl rfl ?_
        refine aw_icmp_gt (tgt := 26) (q := 10) dX1_freeFrom_7 (by decide) rfl (fun hZ => absurd hZ (hl)) (fun _ => ?_)
        first | refine aw_aload_n (i := 0) (q := 11) dX1_freeFrom_10 rfl rfl rfl ?_ | refine aw_aloadN_n (i := 0) (q := 11) dX1_freeFrom_10 rfl rfl rfl ?_ | refine aw_aloadQ_n (i := 0) (q := 11) dX1_freeFrom_10 rfl rfl rfl ?_
        first | refine aw_aload_n (i := 3) (q := 12) dX1_freeFrom_11 rfl rfl rfl ?_ | refine aw_aloadN_n (i := 3) (q := 12) dX1_freeFrom_11 rfl rfl rfl ?_ | refine aw_aloadQ_n (i := 3) (q := 12) dX1_freeFrom_11 rfl rfl rfl ?_
        refine aw_z ?_
        refine aw_callV (q := 15) dX1_freeFrom_12 (C_isFree (zF.pr h hk) (zHM.fr m1 hk) (zHM.fr m2 hk) hb2 hw) cv_X1_214_1 (by assumption) rfl rfl (by decide) (by decide) (by first | exact Nat.le_of_ble_eq_true rfl | simp [zcat_rf, Value.category]) rfl (zpk ?_)
        refine aw_if_ne (tgt := 26) (q := 18) dX1_freeFrom_15 (by decide) rfl (fun _ => ?_) (fun hZ => absurd hZ ((by rw [zB_t hfr]; decide)))
        first | refine aw_aload_n (i := 3) (q := 27) dX1_freeFrom_26 rfl rfl rfl ?_ | refine aw_aloadN_n (i := 3) (q := 27) dX1_freeFrom_26 rfl rfl rfl ?_ | refine aw_aloadQ_n (i := 3) (q := 27) dX1_freeFrom_26 rfl rfl rfl ?_
        refine aw_getfield (q := 30) dX1_freeFrom_27 gf_X1_206_8 (by assumption) rfl rfl ?_
        refine aw_iload_n (i := 2) (q := 31) dX1_freeFrom_30 rfl rfl rfl ?_
        refine aw_icmp_gt (tgt := 41) (q := 34) dX1_freeFrom_31 (by decide) rfl (fun hZ => absurd hZ (hl)) (fun _ => ?_)
        first | refine aw_aload_n (i := 3) (q := 35) dX1_freeFrom_34 rfl rfl rfl ?_ | refine aw_aloadN_n (i := 3) (q := 35) dX1_freeFrom_34 rfl rfl rfl ?_ | refine aw_aloadQ_n (i := 3) (q := 35) dX1_freeFrom_34 rfl rfl rfl ?_
        refine AW.bud (bc' := (bc - 1) + 1) (bs' := (bs - 1) + 1) ?_ (by omega) (by omega)
        refine aw_callS (q := 38) dX1_freeFrom_35 (C_Opt_of (u := zTI) zTI_nz) cs_X1_148 rfl rfl (by decide) (by decide) (by first | exact Nat.le_of_ble_eq_true rfl | simp [zcat_rf, Value.category]) rfl (fun v35 μ3 hp => ?_)
        obtain ⟨x, rfl, hx, hg⟩ := hp
        refine aw_goto (tgt := 44) dX1_freeFrom_38 (by decide) ?_
        have hb3 : zTim μ3 b t := hg ▸ (updM_ne (zneN hb2 hx)).trans hb2
        exact aw_areturnR dX1_freeFrom_44 rfl (by first | exact Or.inl ⟨_, rfl⟩ | exact Or.inr ⟨_, rfl⟩) (⟨hk.tr (hg ▸ zKp.new hx), Or.inr ⟨hl, x, b, rfl, hg ▸ updM_eq _ _ _, hb3⟩⟩)
    | succ n ih =>
      intro t b μ2 e hk hb2 hbe bc bs h1 h2
      obtain ⟨hnf, hl⟩ := hbe t (Nat.le_refl t) (by omega)
      have hp2 := (zF.pr h hk).1
      first | refine aw_aload_n (i := 3) (q := 3) dX1_freeFrom_2 rfl rfl rfl ?_ | refine aw_aloadN_n (i := 3) (q := 3) dX1_freeFrom_2 rfl rfl rfl ?_ | refine aw_aloadQ_n (i := 3) (q := 3) dX1_freeFrom_2 rfl rfl rfl ?_
      refine aw_getfield (q := 6) dX1_freeFrom_3 gf_X1_206_8 (by assumption) rfl rfl ?_
      refine aw_iload_n (i := 2) (q := 7) dX1_freeFrom_6 rfl rfl rfl ?_
      refine aw_icmp_gt (tgt := 26) (q := 10) dX1_freeFrom_7 (by decide) rfl (fun hZ => absurd hZ (hl)) (fun _ => ?_)
      first | refine aw_aload_n (i := 0) (q := 11) dX1_freeFrom_10 rfl rfl rfl ?_ | refine aw_aloadN_n (i := 0) (q := 11) dX1_freeFrom_10 rfl rfl rfl ?_ | refine aw_aloadQ_n (i := 0) (q := 11) dX1_freeFrom_10 rfl rfl rfl ?_
      first | refine aw_aload_n (i := 3) (q := 12) dX1_freeFrom_11 rfl rfl rfl ?_ | refine aw_aloadN_n (i := 3) (q := 12) dX1_freeFrom_11 rfl rfl rfl ?_ | refine aw_aloadQ_n (i := 3) (q := 12) dX1_freeFrom_11 rfl rfl rfl ?_
      refine aw_z ?_
      refine aw_callV (q := 15) dX1_freeFrom_12 (C_isFree (zF.pr h hk) (zHM.fr m1 hk) (zHM.fr m2 hk) hb2 (by omega)) cv_X1_214_1 (by assumption) rfl rfl (by decide) (by decide) (by first | exact Nat.le_of_ble_eq_true rfl | simp [zcat_rf, Value.category]) rfl (zpk ?_)
      refine aw_if_ne (tgt := 26) (q := 18) dX1_freeFrom_15 (by decide) rfl (fun hZ => absurd ((zB_f hnf)) hZ) (fun _ => ?_)
      first | refine aw_aload_n (i := 3) (q := 19) dX1_freeFrom_18 rfl rfl rfl ?_ | refine aw_aloadN_n (i := 3) (q := 19) dX1_freeFrom_18 rfl rfl rfl ?_ | refine aw_aloadQ_n (i := 3) (q := 19) dX1_freeFrom_18 rfl rfl rfl ?_
      refine AW.bud (bc' := (bc - 1) + 1) (bs' := (bs - 2) + 2) ?_ (by omega) (by omega)
      refine aw_callV (q := 22) dX1_freeFrom_19 (C_Time_next (d := t / 6) (s := t % 6) hb2 (by omega) (by omega) z00_nz) cv_X1_218_8 (by assumption) rfl rfl (by decide) (by decide) (by first | exact Nat.le_of_ble_eq_true rfl | simp [zcat_rf, Value.category]) rfl (fun v19 μ3 hp => ?_)
      obtain ⟨b', rfl, hn, hg⟩ := hp
      rw [show 6 * (t / 6) + t % 6 + 1 = t + 1 by omega] at hg
      have hb3 : zTim μ3 b' (t + 1) := hg ▸ updM_eq _ _ _
      first | refine aw_astore_n (i := 3) (q := 23) dX1_freeFrom_22 rfl (by decide) rfl ?_ | refine aw_astoreN_n (i := 3) (q := 23) dX1_freeFrom_22 rfl (by decide) rfl ?_ | refine aw_astoreQ_n (i := 3) (q := 23) dX1_freeFrom_22 rfl (by decide) rfl ?_
      refine aw_goto (tgt := 2) dX1_freeFrom_23 (by decide) ?_
      exact AW.bud (aw_locals (by exact ⟨rfl, rfl, rfl, rfl, trivial⟩) (ih (t + 1) b' μ3 (by omega) (hk.tr (hg ▸ zKp.new hn)) hb3 (fun u u1 u2 => hbe u (by omega) u2) (bc - 1) (bs - 2) (by omega) (by omega))) (by omega) (by omega)
  refine meets_of (by decide +kernel) (Nat.le_of_ble_eq_true rfl) ?_
  first | refine aw_aload_n (i := 1) (q := 1) dX1_freeFrom_0 rfl rfl rfl ?_ | refine aw_aloadN_n (i := 1) (q := 1) dX1_freeFrom_0 rfl rfl rfl ?_ | refine aw_aloadQ_n (i := 1) (q := 1) dX1_freeFrom_0 rfl rfl rfl ?_
  first | refine aw_astore_n (i := 3) (q := 2) dX1_freeFrom_1 rfl (by decide) rfl ?_ | refine aw_astoreN_n (i := 3) (q := 2) dX1_freeFrom_1 rfl (by decide) rfl ?_ | refine aw_astoreQ_n (i := 3) (q := 2) dX1_freeFrom_1 rfl (by decide) rfl ?_
  exact AW.bud (aw_locals (by exact ⟨rfl, rfl, rfl, rfl, trivial⟩) (loop n t a μ ew zKp.rf ha hb _ _ (Nat.le_refl _) (Nat.le_refl _))) (by omega) (by omega)
end ZPN
