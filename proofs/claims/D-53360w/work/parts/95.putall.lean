/-! HASH MAPS: the entries in order; putAll into a new map -/
set_option maxRecDepth 100000
/-- the entries of the last d bins -/
def zTl (L : Nat → List Nat) (n : Nat) : Nat → List Nat
  | 0 => []
  | d + 1 => L (n - (d + 1)) ++ zTl L n d
theorem zTl_mem {L : Nat → List Nat} {n x : Nat} : ∀ d, d ≤ n → (x ∈ zTl L n d ↔ ∃ i, n - d ≤ i ∧ i < n ∧ x ∈ L i)
  | 0, _ => ⟨fun q => absurd q List.not_mem_nil, fun ⟨i, h1, h2, _⟩ => by omega⟩
  | d + 1, hd => by
    show x ∈ L (n - (d + 1)) ++ zTl L n d ↔ _
    rw [List.mem_append, zTl_mem d (by omega)]
    constructor
    · rintro (q | ⟨i, h1, h2, h3⟩)
      · exact ⟨n - (d + 1), Nat.le_refl _, by omega, q⟩
      · exact ⟨i, by omega, h2, h3⟩
    · rintro ⟨i, h1, h2, h3⟩
      by_cases e : i = n - (d + 1)
      · exact Or.inl (e ▸ h3)
      · exact Or.inr ⟨i, by omega, h2, h3⟩
theorem zTl_nodup {L : Nat → List Nat} {n : Nat} (h : ∀ i, i < n → (L i).Nodup ∧ ∀ x, x ∈ L i → x % n = i) : ∀ d, d ≤ n → (zTl L n d).Nodup
  | 0, _ => List.nodup_nil
  | d + 1, hd => by
    refine List.nodup_append.mpr ⟨(h _ (by omega)).1, zTl_nodup h d (by omega), fun a ha b hb e => ?_⟩
    obtain ⟨i, h1, h2, h3⟩ := (zTl_mem d (by omega)).mp hb
    have e1 := (h _ (by omega)).2 a ha
    have e2 := (h i h2).2 b h3
    rw [e] at e1
    omega
section ZPA
variable {G : zG} {μ : zM} {R o : Nat}
/-- what a reader of the entries needs -/
def zRd (G : zG) (μ : zM) (R o tb n : Nat) (val ν ky : Nat → Nat) (nx ft : Nat → Option Nat) (L : Nat → List Nat) : Prop := μ tb = some (hbT R o, aN G n ft) ∧ ∀ i, i < n → (L i).Nodup ∧ (∀ x, x ∈ L i → x % n = i) ∧ ft i = (L i).head?.map ν ∧ zCh nx (L i) ∧ ∀ x, x ∈ L i → x < 8192 ∧ zNc μ (ν x) (hnT R o x) x (ky x) (zVl G val x) ((nx x).map ν) ∧ μ (ky x) = some ((0, 0), oTime (nI (x / 6)) (nI (x % 6)))
theorem zNc.kp {μ μ' : zM} {a h k b : Nat} {t : zT} {nx : Option Nat} (hm : zNc μ a t h k b nx) {T : Nat → zT → Prop} (hk : zKp T μ μ') (hT : ¬ T a t) : zNc μ' a t h k b nx := by
  rcases hm with h | ⟨pa, le, ri, pv, rd, h⟩
  · exact Or.inl (hk _ _ _ h hT)
  · exact Or.inr ⟨pa, le, ri, pv, rd, hk _ _ _ h hT⟩
theorem zRd.kp {μ' : zM} {tb n : Nat} {val ν ky : Nat → Nat} {nx ft : Nat → Option Nat} {L : Nat → List Nat} (h : zRd G μ R o tb n val ν ky nx ft L) {T : Nat → zT → Prop} (hk : zKp T μ μ') (h1 : ∀ c, ¬ T c (hbT R o)) (h2 : ∀ c x, x < 8192 → ¬ T c (hnT R o x)) (h0 : ∀ c, ¬ T c (0, 0)) : zRd G μ' R o tb n val ν ky nx ft L := by
  obtain ⟨g1, g2⟩ := h
  refine ⟨hk _ _ _ g1 (h1 _), fun i hi => ?_⟩
  obtain ⟨a1, a2, a3, a4, a5⟩ := g2 i hi
  refine ⟨a1, a2, a3, a4, fun x hx => ?_⟩
  obtain ⟨b1, b2, b3⟩ := a5 x hx
  exact ⟨b1, b2.kp hk (h2 _ _ b1), hk _ _ _ b3 (h0 _)⟩
theorem zHMc.rd {tb k cap : Nat} {pl : Bool} {ks : List Nat} {val : Nat → Nat} (h : zHMc G μ R o tb k cap pl ks val) : ∃ (ν ky : Nat → Nat) (nx ft : Nat → Option Nat) (L : Nat → List Nat), zRd G μ R o tb (2 ^ k) val ν ky nx ft L ∧ ks.Nodup ∧ (∀ x, x ∈ ks ↔ x ∈ L (x % 2 ^ k)) := by
  obtain ⟨ky, ft, L, tr, h2, h3, ⟨h4, h5⟩, h6, -⟩ := h
  have hex : ∀ i, ∃ p : (Nat → Nat) × (Nat → Option Nat), i < 2 ^ k → ft i = (L i).head?.map p.1 ∧ zCh p.2 (L i) ∧ (L i).Nodup ∧ ∀ x, x ∈ L i → x < 8192 ∧ zNc μ (p.1 x) (hnT R o x) x (ky x) (zVl G val x) ((p.2 x).map p.1) := by
    intro i
    by_cases hi : i < 2 ^ k
    · obtain ⟨ν, nx, g1, g2, g3, g4⟩ := (h5 i hi).1.node
      exact ⟨(ν, nx), fun _ => ⟨g1, g2, g3, g4⟩⟩
    · exact ⟨(fun _ => 0, fun _ => none), fun q => absurd q hi⟩
  obtain ⟨F, hF⟩ := Classical.skolem.mp hex
  have key : ∀ i, i < 2 ^ k → ∀ x, x ∈ L i → F (x % 2 ^ k) = F i := fun i hi x hx => by rw [(h5 i hi).2 x hx]
  refine ⟨fun x => (F (x % 2 ^ k)).1 x, ky, fun x => (F (x % 2 ^ k)).2 x, ft, L, ⟨h4, fun i hi => ?_⟩, h2, h6⟩
  obtain ⟨g1, g2, g3, g4⟩ := hF i hi
  refine ⟨g3, (h5 i hi).2, ?_, g2.congr (fun x hx => by rw [key i hi x hx]), fun x hx => ?_⟩
  · rw [g1]
    exact (zOmap (fun x hx => by (try dsimp only); rw [key i hi x (List.mem_of_mem_head? hx)])).symm
  · obtain ⟨a1, a2⟩ := g4 x hx
    have hxk : x ∈ ks := (h6 x).mpr (by rw [(h5 i hi).2 x hx]; exact hx)
    refine ⟨a1, ?_, h3 x hxk⟩
    try dsimp only
    rw [key i hi x hx]
    have e : ((F i).2 x).map (fun y => (F (y % 2 ^ k)).1 y) = ((F i).2 x).map (F i).1 := zOmap (fun y hy => by (try dsimp only); rw [key i hi y (zCh_in g2 x hx y hy)])
    rw [e]
    exact a2
/-- the iterator's cell -/
abbrev oIt (nxt cur : Option Nat) (mc : Int32) (idx m : Nat) : va_E := .inr (17, [va_rf nxt, va_rf cur, .int mc, .int (nI idx), .ref m])
/-- the iterator, with rem still to come: j bins are begun -/
def zIt (μ : zM) (u : zT) (it m n : Nat) (mc : Int32) (ν : Nat → Nat) (L : Nat → List Nat) (rem : List Nat) : Prop := ∃ (j : Nat) (s : List Nat) (cur : Option Nat), j ≤ n ∧ rem = s ++ zTl L n (n - j) ∧ μ it = some (u, oIt (s.head?.map ν) cur mc j m) ∧ ((s = [] ∧ rem = []) ∨ (s ≠ [] ∧ ∃ pre, 1 ≤ j ∧ L (j - 1) = pre ++ s))
theorem zTl_s {L : Nat → List Nat} {n j : Nat} (h : j < n) : zTl L n (n - j) = L j ++ zTl L n (n - (j + 1)) := by
  obtain ⟨d, hd⟩ : ∃ d, n - j = d + 1 := ⟨n - j - 1, by omega⟩
  rw [hd, show n - (j + 1) = d by omega]
  show L (n - (d + 1)) ++ zTl L n d = _
  rw [show n - (d + 1) = j by omega]
theorem C_it_hasNext {u : zT} {it m n : Nat} {mc : Int32} {ν : Nat → Nat} {L : Nat → List Nat} {rem : List Nat} (h : zIt μ u it m n mc ν L rem) : Meets G 1 MJ26_hasNext [.ref it] μ (zPure (.int (zB (rem ≠ []))) μ) 0 0 := by
  obtain ⟨j, s, cur, h1, h2, h3, h4⟩ := h
  rcases s with _ | ⟨x, s⟩
  · have hr : rem = [] := h4.elim (fun q => q.2) (fun q => absurd rfl q.1)
    simp only [List.head?_nil, Option.map_none, zrf_n] at h3
    refine meets_of (by decide +kernel) (Nat.le_of_ble_eq_true rfl) ?_
    first | refine aw_aload_n (i := 0) (q := 1) dJ26_hasNext_0 rfl rfl rfl ?_ | refine aw_aloadN_n (i := 0) (q := 1) dJ26_hasNext_0 rfl rfl rfl ?_ | refine aw_aloadQ_n (i := 0) (q := 1) dJ26_hasNext_0 rfl rfl rfl ?_
    refine aw_getfield (q := 4) dJ26_hasNext_1 gf_J26_26_17 (by assumption) rfl rfl ?_
    refine aw_ifnull_n (tgt := 11) dJ26_hasNext_4 (by decide) ?_
    refine aw_iconst (v := 0) (q := 12) dJ26_hasNext_11 rfl rfl ?_
    exact aw_ireturn dJ26_hasNext_12 rfl (by first | rfl | exact zB_nar _) (by refine ⟨?_, rfl⟩; rw [zB_f (fun q => q hr)])
  · have hr : rem ≠ [] := by rw [h2]; exact List.cons_ne_nil _ _
    simp only [List.head?_cons, Option.map_some, zrf_s] at h3
    refine meets_of (by decide +kernel) (Nat.le_of_ble_eq_true rfl) ?_
    first | refine aw_aload_n (i := 0) (q := 1) dJ26_hasNext_0 rfl rfl rfl ?_ | refine aw_aloadN_n (i := 0) (q := 1) dJ26_hasNext_0 rfl rfl rfl ?_ | refine aw_aloadQ_n (i := 0) (q := 1) dJ26_hasNext_0 rfl rfl rfl ?_
    refine aw_getfield (q := 4) dJ26_hasNext_1 gf_J26_26_17 (by assumption) rfl rfl ?_
    refine aw_ifnull_r (q := 7) dJ26_hasNext_4 rfl ?_
    refine aw_iconst (v := 1) (q := 8) dJ26_hasNext_7 rfl rfl ?_
    refine aw_goto (tgt := 12) dJ26_hasNext_8 (by decide) ?_
    exact aw_ireturn dJ26_hasNext_12 rfl (by first | rfl | exact zB_nar _) (by refine ⟨?_, rfl⟩; rw [zB_t hr])
set_option maxHeartbeats 4000000 in
theorem C_it_next {u tm : zT} {it m tb n x : Nat} {mc : Int32} {sz thr : Nat} {es : Option Nat} {val ν ky : Nat → Nat} {nx ft : Nat → Option Nat} {L : Nat → List Nat} {rem : List Nat} (h : zIt μ u it m n mc ν L (x :: rem)) (hr : zRd G μ R o tb n val ν ky nx ft L) (hm : μ m = some (tm, oHM (some tb) es sz mc thr)) (hn : n < 2 ^ 20) (hu : u ≠ zC) (hut : u ≠ hbT R o) (hun : ∀ x, u ≠ hnT R o x) : Meets G 1 MJ26_nextNode [.ref it] μ (fun v μ' => v = some (.ref (ν x)) ∧ zIt μ' u it m n mc ν L rem ∧ zKp (fun c _ => c = it) μ μ') 0 0 := by
  obtain ⟨j, s, cur, h1, h2, h3, h4⟩ := h
  rcases s with _ | ⟨x', s⟩
  · exact absurd (h4.elim (fun q => q.2) (fun q => absurd rfl q.1)) (List.cons_ne_nil _ _)
  · have e0 : x = x' ∧ rem = s ++ zTl L n (n - j) := by
      have : x :: rem = x' :: (s ++ zTl L n (n - j)) := h2
      exact ⟨(List.cons.inj this).1, (List.cons.inj this).2⟩
    obtain ⟨rfl, hrem⟩ := e0
    obtain ⟨hne, pre, hj1, hL⟩ := h4.elim (fun q => absurd q.1 (List.cons_ne_nil _ _)) id
    obtain ⟨g1, g2⟩ := hr
    obtain ⟨a1, a2, a3, a4, a5⟩ := g2 (j - 1) (by omega)
    have hxL : x ∈ L (j - 1) := by rw [hL]; exact List.mem_append_right _ List.mem_cons_self
    obtain ⟨hx8, hx1, -⟩ := a5 x hxL
    have hnx : nx x = s.head? := by
      have : ∀ {l1 : List Nat}, zCh nx (l1 ++ x :: s) → nx x = s.head? := by
        intro l1
        induction l1 with
        | nil => intro q; exact q.1
        | cons z l1 ih => intro q; exact ih q.2
      exact this (hL ▸ a4)
    rw [hnx] at hx1
    have hitm : it ≠ m := zneq h3 hm (by simp)
    have hitx : it ≠ ν x := by
      rcases hx1 with q | ⟨_, _, _, _, _, q⟩
      · exact zneq h3 q (by simp)
      · exact zneq h3 q (by simp)
    have hittb : it ≠ tb := zneq h3 g1 (by simp)
    simp only [List.head?_cons, Option.map_some, zrf_s] at h3
    try simp only [zrf_s] at hm
    have h30 := h3
    have s98 : ∀ (μ1 : zM), zIt μ1 u it m n mc ν L rem → zKp (fun c _ => c = it) μ μ1 → AW G 1 MJ26_nextNode (fun v μ' => v = some (.ref (ν x)) ∧ zIt μ' u it m n mc ν L rem ∧ zKp (fun c _ => c = it) μ μ') 0 0 98 [(2, .ref (ν x))] [] μ1 := by
      intro μ1 h1 hk1
      first | refine aw_aload_n (i := 2) (q := 99) dJ26_nextNode_98 rfl rfl rfl ?_ | refine aw_aloadN_n (i := 2) (q := 99) dJ26_nextNode_98 rfl rfl rfl ?_ | refine aw_aloadQ_n (i := 2) (q := 99) dJ26_nextNode_98 rfl rfl rfl ?_
      exact aw_areturnR dJ26_nextNode_99 rfl (by first | exact Or.inl ⟨_, rfl⟩ | exact Or.inr ⟨_, rfl⟩) (⟨rfl, h1, hk1⟩)
    refine meets_of (by decide +kernel) (Nat.le_of_ble_eq_true rfl) ?_
    first | refine aw_aload_n (i := 0) (q := 1) dJ26_nextNode_0 rfl rfl rfl ?_ | refine aw_aloadN_n (i := 0) (q := 1) dJ26_nextNode_0 rfl rfl rfl ?_ | refine aw_aloadQ_n (i := 0) (q := 1) dJ26_nextNode_0 rfl rfl rfl ?_
    refine aw_getfield (q := 4) dJ26_nextNode_1 gf_J26_26_17 (by assumption) rfl rfl ?_
    first | refine aw_astore_n (i := 2) (q := 5) dJ26_nextNode_4 rfl (by decide) rfl ?_ | refine aw_astoreN_n (i := 2) (q := 5) dJ26_nextNode_4 rfl (by decide) rfl ?_ | refine aw_astoreQ_n (i := 2) (q := 5) dJ26_nextNode_4 rfl (by decide) rfl ?_
    try simp (config := {decide := true}) only [zput, zdel_q, zdel_f, zdel_t, zdel_nil, zdel_r, zdel_i, zdel_n]
    first | refine aw_aload_n (i := 0) (q := 6) dJ26_nextNode_5 rfl rfl rfl ?_ | refine aw_aloadN_n (i := 0) (q := 6) dJ26_nextNode_5 rfl rfl rfl ?_ | refine aw_aloadQ_n (i := 0) (q := 6) dJ26_nextNode_5 rfl rfl rfl ?_
    refine aw_getfield (q := 9) dJ26_nextNode_6 gf_J26_1_17 (by assumption) rfl rfl ?_
    refine aw_getfield (q := 12) dJ26_nextNode_9 gf_J26_13_19 (by assumption) rfl rfl ?_
    first | refine aw_aload_n (i := 0) (q := 13) dJ26_nextNode_12 rfl rfl rfl ?_ | refine aw_aloadN_n (i := 0) (q := 13) dJ26_nextNode_12 rfl rfl rfl ?_ | refine aw_aloadQ_n (i := 0) (q := 13) dJ26_nextNode_12 rfl rfl rfl ?_
    refine aw_getfield (q := 16) dJ26_nextNode_13 gf_J26_19_17 (by assumption) rfl rfl ?_
    refine aw_icmp_eq (tgt := 27) (q := 19) dJ26_nextNode_16 (by decide) rfl (fun _ => ?_) (fun hZ => absurd (rfl) hZ)
    first | refine aw_aload_n (i := 2) (q := 28) dJ26_nextNode_27 rfl rfl rfl ?_ | refine aw_aloadN_n (i := 2) (q := 28) dJ26_nextNode_27 rfl rfl rfl ?_ | refine aw_aloadQ_n (i := 2) (q := 28) dJ26_nextNode_27 rfl rfl rfl ?_
    refine aw_ifnonnull_r (tgt := 39) dJ26_nextNode_28 (by decide) ?_
    first | refine aw_aload_n (i := 0) (q := 40) dJ26_nextNode_39 rfl rfl rfl ?_ | refine aw_aloadN_n (i := 0) (q := 40) dJ26_nextNode_39 rfl rfl rfl ?_ | refine aw_aloadQ_n (i := 0) (q := 40) dJ26_nextNode_39 rfl rfl rfl ?_
    first | refine aw_aload_n (i := 0) (q := 41) dJ26_nextNode_40 rfl rfl rfl ?_ | refine aw_aloadN_n (i := 0) (q := 41) dJ26_nextNode_40 rfl rfl rfl ?_ | refine aw_aloadQ_n (i := 0) (q := 41) dJ26_nextNode_40 rfl rfl rfl ?_
    first | refine aw_aload_n (i := 2) (q := 42) dJ26_nextNode_41 rfl rfl rfl ?_ | refine aw_aloadN_n (i := 2) (q := 42) dJ26_nextNode_41 rfl rfl rfl ?_ | refine aw_aloadQ_n (i := 2) (q := 42) dJ26_nextNode_41 rfl rfl rfl ?_
    refine aw_dup_x1 (q := 43) dJ26_nextNode_42 (by first | rfl | exact zcat_rf _) (by first | rfl | exact zcat_rf _) rfl ?_
    refine aw_putfield (q := 46) dJ26_nextNode_43 gf_J26_30_17 h3 (by first | assumption | simp) (by first | rfl | exact znar_rf _ _ | exact zB_nar _) (by first | rfl | exact zfit_rf _ _ | exact zB_fit _) (Nat.le_of_ble_eq_true rfl) rfl (fun μ1 hg_μ1 => ?_)
    have h3 : μ1 _ = some _ := hg_μ1 ▸ updM_eq _ _ _
    simp only [List.set] at h3 hg_μ1
    have hk1 : zKp (fun c _ => c = it) μ μ1 := hg_μ1 ▸ zKp.up
    have hx2 := hx1.kp hk1 (Ne.symm hitx)
    have hm1 := hk1 _ _ _ hm (Ne.symm hitm)
    have g11 := hk1 _ _ _ g1 (Ne.symm hittb)
    first | refine aw_getfield (q := 49) dJ26_nextNode_46 gf_J26_45_13 (by assumption) rfl rfl ?_ | refine aw_getfield (q := 49) dJ26_nextNode_46 gf_J26_45_15 (by assumption) rfl rfl ?_ | refine aw_nd (i := 3) (q := 49) dJ26_nextNode_46 gf_J26_45_13 gf_J26_45_15 (by assumption) rfl rfl ?_
    refine aw_dup_x1 (q := 50) dJ26_nextNode_49 (by first | rfl | exact zcat_rf _) (by first | rfl | exact zcat_rf _) rfl ?_
    refine aw_putfield (q := 53) dJ26_nextNode_50 gf_J26_26_17 h3 (by first | assumption | simp) (by first | rfl | exact znar_rf _ _ | exact zB_nar _) (by first | rfl | exact zfit_rf _ _ | exact zB_fit _) (Nat.le_of_ble_eq_true rfl) rfl (fun μ2 hg_μ2 => ?_)
    have h3 : μ2 _ = some _ := hg_μ2 ▸ updM_eq _ _ _
    simp only [List.set] at h3 hg_μ2
    have hk2 : zKp (fun c _ => c = it) μ1 μ2 := hg_μ2 ▸ zKp.up
    have hm2 := hk2 _ _ _ hm1 (Ne.symm hitm)
    have g12 := hk2 _ _ _ g11 (Ne.symm hittb)
    rcases s with _ | ⟨y, s⟩
    · simp only [List.head?_nil, Option.map_none, zrf_n] at h3 ⊢
      refine aw_ifnonnull_n (q := 56) dJ26_nextNode_53 rfl ?_
      first | refine aw_aload_n (i := 0) (q := 57) dJ26_nextNode_56 rfl rfl rfl ?_ | refine aw_aloadN_n (i := 0) (q := 57) dJ26_nextNode_56 rfl rfl rfl ?_ | refine aw_aloadQ_n (i := 0) (q := 57) dJ26_nextNode_56 rfl rfl rfl ?_
      refine aw_getfield (q := 60) dJ26_nextNode_57 gf_J26_1_17 (by assumption) rfl rfl ?_
      refine aw_getfield (q := 63) dJ26_nextNode_60 gf_J26_22_19 (by assumption) rfl rfl ?_
      refine aw_dup (q := 64) dJ26_nextNode_63 (by first | rfl | exact zcat_rf _) rfl ?_
      first | refine aw_astore_n (i := 1) (q := 65) dJ26_nextNode_64 rfl (by decide) rfl ?_ | refine aw_astoreN_n (i := 1) (q := 65) dJ26_nextNode_64 rfl (by decide) rfl ?_ | refine aw_astoreQ_n (i := 1) (q := 65) dJ26_nextNode_64 rfl (by decide) rfl ?_
      refine aw_ifnull_r (q := 68) dJ26_nextNode_65 rfl ?_
      have loop : ∀ d j, j + d = n → ∀ (μ3 : zM), rem = zTl L n (n - j) → μ3 it = some (u, oIt none (some (ν x)) mc j m) → zKp (fun c _ => c = it) μ μ3 → AW G 1 MJ26_nextNode (fun v μ' => v = some (.ref (ν x)) ∧ zIt μ' u it m n mc ν L rem ∧ zKp (fun c _ => c = it) μ μ') 0 0 68 [(0, .ref it), (1, .ref tb), (2, .ref (ν x))] [] μ3 := by
        intro d
        induction d with
        | zero =>
          intro j hj μ3 hrem h3 hk3
          have g13 := hk3 _ _ _ g1 (Ne.symm hittb)
          have hr0 : rem = [] := by rw [hrem, show n - j = 0 by omega]; rfl
          have h30 := h3
          try simp only [zrf_n, zrf_s] at h3
          first | refine aw_aload_n (i := 0) (q := 69) dJ26_nextNode_68 rfl rfl rfl ?_ | refine aw_aloadN_n (i := 0) (q := 69) dJ26_nextNode_68 rfl rfl rfl ?_ | refine aw_aloadQ_n (i := 0) (q := 69) dJ26_nextNode_68 rfl rfl rfl ?_
          refine aw_getfield (q := 72) dJ26_nextNode_69 gf_J26_33_17 (by assumption) rfl rfl ?_
          first | refine aw_aload_n (i := 1) (q := 73) dJ26_nextNode_72 rfl rfl rfl ?_ | refine aw_aloadN_n (i := 1) (q := 73) dJ26_nextNode_72 rfl rfl rfl ?_ | refine aw_aloadQ_n (i := 1) (q := 73) dJ26_nextNode_72 rfl rfl rfl ?_
          first | refine aw_alenI (q := 74) dJ26_nextNode_73 (by assumption) rfl ?_ | refine aw_alenO (q := 74) dJ26_nextNode_73 (by assumption) rfl ?_ | refine aw_alenN (q := 74) dJ26_nextNode_73 (by assumption) rfl ?_ | refine aw_alenB (q := 74) dJ26_nextNode_73 (by assumption) rfl ?_ | refine aw_alenP (q := 74) dJ26_nextNode_73 (by assumption) rfl ?_
          refine aw_icmp_ge (tgt := 98) (q := 77) dJ26_nextNode_74 (by decide) rfl (fun _ => ?_) (fun hZ => absurd (nI_le (by omega) (by omega)) hZ)
          refine aw_locals ?_ (s98 μ3 ⟨j, [], _, by omega, hrem, h30, Or.inl ⟨rfl, hr0⟩⟩ hk3)
          exact ⟨rfl, trivial⟩
        | succ d ih =>
          intro j hj μ3 hrem h3 hk3
          have g13 := hk3 _ _ _ g1 (Ne.symm hittb)
          obtain ⟨b1, b2, b3, b4, b5⟩ := g2 j (by omega)
          try simp only [zrf_n, zrf_s] at h3
          first | refine aw_aload_n (i := 0) (q := 69) dJ26_nextNode_68 rfl rfl rfl ?_ | refine aw_aloadN_n (i := 0) (q := 69) dJ26_nextNode_68 rfl rfl rfl ?_ | refine aw_aloadQ_n (i := 0) (q := 69) dJ26_nextNode_68 rfl rfl rfl ?_
          refine aw_getfield (q := 72) dJ26_nextNode_69 gf_J26_33_17 (by assumption) rfl rfl ?_
          first | refine aw_aload_n (i := 1) (q := 73) dJ26_nextNode_72 rfl rfl rfl ?_ | refine aw_aloadN_n (i := 1) (q := 73) dJ26_nextNode_72 rfl rfl rfl ?_ | refine aw_aloadQ_n (i := 1) (q := 73) dJ26_nextNode_72 rfl rfl rfl ?_
          first | refine aw_alenI (q := 74) dJ26_nextNode_73 (by assumption) rfl ?_ | refine aw_alenO (q := 74) dJ26_nextNode_73 (by assumption) rfl ?_ | refine aw_alenN (q := 74) dJ26_nextNode_73 (by assumption) rfl ?_ | refine aw_alenB (q := 74) dJ26_nextNode_73 (by assumption) rfl ?_ | refine aw_alenP (q := 74) dJ26_nextNode_73 (by assumption) rfl ?_
          refine aw_icmp_ge (tgt := 98) (q := 77) dJ26_nextNode_74 (by decide) rfl (fun hZ => absurd hZ (nI_ge (a := j) (b := n) (by omega) (by omega))) (fun _ => ?_)
          first | refine aw_aload_n (i := 0) (q := 78) dJ26_nextNode_77 rfl rfl rfl ?_ | refine aw_aloadN_n (i := 0) (q := 78) dJ26_nextNode_77 rfl rfl rfl ?_ | refine aw_aloadQ_n (i := 0) (q := 78) dJ26_nextNode_77 rfl rfl rfl ?_
          first | refine aw_aload_n (i := 1) (q := 79) dJ26_nextNode_78 rfl rfl rfl ?_ | refine aw_aloadN_n (i := 1) (q := 79) dJ26_nextNode_78 rfl rfl rfl ?_ | refine aw_aloadQ_n (i := 1) (q := 79) dJ26_nextNode_78 rfl rfl rfl ?_
          first | refine aw_aload_n (i := 0) (q := 80) dJ26_nextNode_79 rfl rfl rfl ?_ | refine aw_aloadN_n (i := 0) (q := 80) dJ26_nextNode_79 rfl rfl rfl ?_ | refine aw_aloadQ_n (i := 0) (q := 80) dJ26_nextNode_79 rfl rfl rfl ?_
          refine aw_dup (q := 81) dJ26_nextNode_80 (by first | rfl | exact zcat_rf _) rfl ?_
          refine aw_getfield (q := 84) dJ26_nextNode_81 gf_J26_33_17 (by assumption) rfl rfl ?_
          refine aw_dup_x1 (q := 85) dJ26_nextNode_84 (by first | rfl | exact zcat_rf _) (by first | rfl | exact zcat_rf _) rfl ?_
          refine aw_iconst (v := 1) (q := 86) dJ26_nextNode_85 rfl rfl ?_
          refine aw_iadd (q := 87) dJ26_nextNode_86 rfl ?_
          try rw [nI_1]
          refine aw_putfield (q := 90) dJ26_nextNode_87 gf_J26_33_17 h3 (by first | assumption | simp) (by first | rfl | exact znar_rf _ _ | exact zB_nar _) (by first | rfl | exact zfit_rf _ _ | exact zB_fit _) (Nat.le_of_ble_eq_true rfl) rfl (fun μ4 hg_μ4 => ?_)
          have h3 : μ4 _ = some _ := hg_μ4 ▸ updM_eq _ _ _
          simp only [List.set] at h3 hg_μ4
          have hk4 : zKp (fun c _ => c = it) μ3 μ4 := hg_μ4 ▸ zKp.up
          have g14 := hk4 _ _ _ g13 (Ne.symm hittb)
          first | refine aw_aaldO (q := 91) (v := ft j) (j) dJ26_nextNode_90 g14 (by first | assumption | (simp only [← nI_add, ← pk_mul]; rfl) | rfl) (by omega) (by omega) (rfl) rfl ?_ | refine aw_aaldP (q := 91) (v := ft j) (j) dJ26_nextNode_90 g14 (by first | assumption | (simp only [← nI_add, ← pk_mul]; rfl) | rfl) (by omega) (by omega) (rfl) rfl ?_ | refine aw_aaldN (q := 91) (v := ft j) (j) dJ26_nextNode_90 g14 (by first | assumption | (simp only [← nI_add, ← pk_mul]; rfl) | rfl) (by omega) (by omega) (rfl) rfl ?_
          refine aw_dup_x1 (q := 92) dJ26_nextNode_91 (by first | rfl | exact zcat_rf _) (by first | rfl | exact zcat_rf _) rfl ?_
          rw [b3]
          have hk34 := hk3.tr hk4
          rcases hLj : L j with _ | ⟨y, l⟩
          · simp only [List.head?_nil, Option.map_none, zrf_n]
            refine aw_putfield (q := 95) dJ26_nextNode_92 gf_J26_26_17 h3 (by first | assumption | simp) (by first | rfl | exact znar_rf _ _ | exact zB_nar _) (by first | rfl | exact zfit_rf _ _ | exact zB_fit _) (Nat.le_of_ble_eq_true rfl) rfl (fun μ5 hg_μ5 => ?_)
            have h3 : μ5 _ = some _ := hg_μ5 ▸ updM_eq _ _ _
            simp only [List.set] at h3 hg_μ5
            have hk5 : zKp (fun c _ => c = it) μ4 μ5 := hg_μ5 ▸ zKp.up
            refine aw_ifnull_n (tgt := 68) dJ26_nextNode_95 (by decide) ?_
            refine aw_locals ?_ (ih (j + 1) (by omega) μ5 (by rw [hrem, zTl_s (by omega), hLj]; rfl) h3 (hk34.tr hk5))
            exact ⟨rfl, rfl, rfl, trivial⟩
          · simp only [List.head?_cons, Option.map_some, zrf_s]
            refine aw_putfield (q := 95) dJ26_nextNode_92 gf_J26_26_17 h3 (by first | assumption | simp) (by first | rfl | exact znar_rf _ _ | exact zB_nar _) (by first | rfl | exact zfit_rf _ _ | exact zB_fit _) (Nat.le_of_ble_eq_true rfl) rfl (fun μ5 hg_μ5 => ?_)
            have h3 : μ5 _ = some _ := hg_μ5 ▸ updM_eq _ _ _
            simp only [List.set] at h3 hg_μ5
            have hk5 : zKp (fun c _ => c = it) μ4 μ5 := hg_μ5 ▸ zKp.up
            refine aw_ifnull_r (q := 98) dJ26_nextNode_95 rfl ?_
            refine aw_locals ?_ (s98 μ5 ⟨j + 1, y :: l, some (ν x), by omega, by rw [hrem, zTl_s (by omega), hLj], h3, Or.inr ⟨List.cons_ne_nil _ _, [], by omega, hLj⟩⟩ (hk34.tr hk5))
            exact ⟨rfl, trivial⟩
      refine aw_locals ?_ (loop (n - j) j (by omega) μ2 hrem h3 (hk1.tr hk2))
      exact ⟨rfl, rfl, rfl, trivial⟩
    · simp only [List.head?_cons, Option.map_some, zrf_s] at h3 ⊢
      refine aw_ifnonnull_r (tgt := 98) dJ26_nextNode_53 (by decide) ?_
      refine aw_locals ?_ (s98 μ2 ⟨j, y :: s, some (ν x), h1, hrem, h3, Or.inr ⟨List.cons_ne_nil _ _, pre ++ [x], hj1, by rw [hL, List.append_assoc]; rfl⟩⟩ (hk1.tr hk2))
      exact ⟨rfl, trivial⟩
set_option maxHeartbeats 4000000 in
theorem C_it_init {u tm : zT} {it m tb n : Nat} {mc : Int32} {sz thr : Nat} {es : Option Nat} {val ν ky : Nat → Nat} {nx ft : Nat → Option Nat} {L : Nat → List Nat} (hi : μ it = some (u, .inr (17, [.null, .null, .int 0, .int 0, .null]))) (hr : zRd G μ R o tb n val ν ky nx ft L) (hm : μ m = some (tm, oHM (some tb) es sz mc thr)) (hn : n < 2 ^ 20) (hu : u ≠ zC) (hs0 : 0 < sz) (hs : sz < 2 ^ 20) : Meets G 2 MJ26_init [.ref it, .ref m] μ (fun v μ' => v = none ∧ zIt μ' u it m n mc ν L (zTl L n n) ∧ zKp (fun c _ => c = it) μ μ') 0 0 := by
  obtain ⟨g1, g2⟩ := hr
  have hitm : it ≠ m := zneq hi hm (by simp)
  have hittb : it ≠ tb := zneq hi g1 (by simp)
  try simp only [zrf_s] at hm
  have loop : ∀ d j, j + d = n → ∀ (μ3 : zM), zTl L n n = zTl L n (n - j) → μ3 it = some (u, oIt none none mc j m) → zKp (fun c _ => c = it) μ μ3 → AW G 2 MJ26_init (fun v μ' => v = none ∧ zIt μ' u it m n mc ν L (zTl L n n) ∧ zKp (fun c _ => c = it) μ μ') 0 0 48 [(0, .ref it), (2, .ref tb)] [] μ3 := by
    intro d
    induction d with
    | zero =>
      intro j hj μ3 hrem h3 hk3
      have g13 := hk3 _ _ _ g1 (Ne.symm hittb)
      have hr0 : zTl L n n = [] := by rw [hrem, show n - j = 0 by omega]; rfl
      have h30 := h3
      try simp only [zrf_n] at h3
      first | refine aw_aload_n (i := 0) (q := 49) dJ26_init_48 rfl rfl rfl ?_ | refine aw_aloadN_n (i := 0) (q := 49) dJ26_init_48 rfl rfl rfl ?_ | refine aw_aloadQ_n (i := 0) (q := 49) dJ26_init_48 rfl rfl rfl ?_
      refine aw_getfield (q := 52) dJ26_init_49 gf_J26_33_17 (by assumption) rfl rfl ?_
      first | refine aw_aload_n (i := 2) (q := 53) dJ26_init_52 rfl rfl rfl ?_ | refine aw_aloadN_n (i := 2) (q := 53) dJ26_init_52 rfl rfl rfl ?_ | refine aw_aloadQ_n (i := 2) (q := 53) dJ26_init_52 rfl rfl rfl ?_
      first | refine aw_alenI (q := 54) dJ26_init_53 (by assumption) rfl ?_ | refine aw_alenO (q := 54) dJ26_init_53 (by assumption) rfl ?_ | refine aw_alenN (q := 54) dJ26_init_53 (by assumption) rfl ?_ | refine aw_alenB (q := 54) dJ26_init_53 (by assumption) rfl ?_ | refine aw_alenP (q := 54) dJ26_init_53 (by assumption) rfl ?_
      refine aw_icmp_ge (tgt := 78) (q := 57) dJ26_init_54 (by decide) rfl (fun _ => ?_) (fun hZ => absurd (nI_le (by omega) (by omega)) hZ)
      exact aw_return dJ26_init_78 rfl (⟨rfl, ⟨j, [], _, by omega, hrem, h30, Or.inl ⟨rfl, hr0⟩⟩, hk3⟩)
    | succ d ih =>
      intro j hj μ3 hrem h3 hk3
      have g13 := hk3 _ _ _ g1 (Ne.symm hittb)
      obtain ⟨b1, b2, b3, b4, b5⟩ := g2 j (by omega)
      try simp only [zrf_n] at h3
      first | refine aw_aload_n (i := 0) (q := 49) dJ26_init_48 rfl rfl rfl ?_ | refine aw_aloadN_n (i := 0) (q := 49) dJ26_init_48 rfl rfl rfl ?_ | refine aw_aloadQ_n (i := 0) (q := 49) dJ26_init_48 rfl rfl rfl ?_
      refine aw_getfield (q := 52) dJ26_init_49 gf_J26_33_17 (by assumption) rfl rfl ?_
      first | refine aw_aload_n (i := 2) (q := 53) dJ26_init_52 rfl rfl rfl ?_ | refine aw_aloadN_n (i := 2) (q := 53) dJ26_init_52 rfl rfl rfl ?_ | refine aw_aloadQ_n (i := 2) (q := 53) dJ26_init_52 rfl rfl rfl ?_
      first | refine aw_alenI (q := 54) dJ26_init_53 (by assumption) rfl ?_ | refine aw_alenO (q := 54) dJ26_init_53 (by assumption) rfl ?_ | refine aw_alenN (q := 54) dJ26_init_53 (by assumption) rfl ?_ | refine aw_alenB (q := 54) dJ26_init_53 (by assumption) rfl ?_ | refine aw_alenP (q := 54) dJ26_init_53 (by assumption) rfl ?_
      refine aw_icmp_ge (tgt := 78) (q := 57) dJ26_init_54 (by decide) rfl (fun hZ => absurd hZ (nI_ge (a := j) (b := n) (by omega) (by omega))) (fun _ => ?_)
      first | refine aw_aload_n (i := 0) (q := 58) dJ26_init_57 rfl rfl rfl ?_ | refine aw_aloadN_n (i := 0) (q := 58) dJ26_init_57 rfl rfl rfl ?_ | refine aw_aloadQ_n (i := 0) (q := 58) dJ26_init_57 rfl rfl rfl ?_
      first | refine aw_aload_n (i := 2) (q := 59) dJ26_init_58 rfl rfl rfl ?_ | refine aw_aloadN_n (i := 2) (q := 59) dJ26_init_58 rfl rfl rfl ?_ | refine aw_aloadQ_n (i := 2) (q := 59) dJ26_init_58 rfl rfl rfl ?_
      first | refine aw_aload_n (i := 0) (q := 60) dJ26_init_59 rfl rfl rfl ?_ | refine aw_aloadN_n (i := 0) (q := 60) dJ26_init_59 rfl rfl rfl ?_ | refine aw_aloadQ_n (i := 0) (q := 60) dJ26_init_59 rfl rfl rfl ?_
      refine aw_dup (q := 61) dJ26_init_60 (by first | rfl | exact zcat_rf _) rfl ?_
      refine aw_getfield (q := 64) dJ26_init_61 gf_J26_33_17 (by assumption) rfl rfl ?_
      refine aw_dup_x1 (q := 65) dJ26_init_64 (by first | rfl | exact zcat_rf _) (by first | rfl | exact zcat_rf _) rfl ?_
      refine aw_iconst (v := 1) (q := 66) dJ26_init_65 rfl rfl ?_
      refine aw_iadd (q := 67) dJ26_init_66 rfl ?_
      try rw [nI_1]
      refine aw_putfield (q := 70) dJ26_init_67 gf_J26_33_17 h3 (by first | assumption | simp) (by first | rfl | exact znar_rf _ _ | exact zB_nar _) (by first | rfl | exact zfit_rf _ _ | exact zB_fit _) (Nat.le_of_ble_eq_true rfl) rfl (fun μ4 hg_μ4 => ?_)
      have h3 : μ4 _ = some _ := hg_μ4 ▸ updM_eq _ _ _
      simp only [List.set] at h3 hg_μ4
      have hk4 : zKp (fun c _ => c = it) μ3 μ4 := hg_μ4 ▸ zKp.up
      have g14 := hk4 _ _ _ g13 (Ne.symm hittb)
      first | refine aw_aaldO (q := 71) (v := ft j) (j) dJ26_init_70 g14 (by first | assumption | (simp only [← nI_add, ← pk_mul]; rfl) | rfl) (by omega) (by omega) (rfl) rfl ?_ | refine aw_aaldP (q := 71) (v := ft j) (j) dJ26_init_70 g14 (by first | assumption | (simp only [← nI_add, ← pk_mul]; rfl) | rfl) (by omega) (by omega) (rfl) rfl ?_ | refine aw_aaldN (q := 71) (v := ft j) (j) dJ26_init_70 g14 (by first | assumption | (simp only [← nI_add, ← pk_mul]; rfl) | rfl) (by omega) (by omega) (rfl) rfl ?_
      refine aw_dup_x1 (q := 72) dJ26_init_71 (by first | rfl | exact zcat_rf _) (by first | rfl | exact zcat_rf _) rfl ?_
      rw [b3]
      have hk34 := hk3.tr hk4
      rcases hLj : L j with _ | ⟨y, l⟩
      · simp only [List.head?_nil, Option.map_none, zrf_n]
        refine aw_putfield (q := 75) dJ26_init_72 gf_J26_26_17 h3 (by first | assumption | simp) (by first | rfl | exact znar_rf _ _ | exact zB_nar _) (by first | rfl | exact zfit_rf _ _ | exact zB_fit _) (Nat.le_of_ble_eq_true rfl) rfl (fun μ5 hg_μ5 => ?_)
        have h3 : μ5 _ = some _ := hg_μ5 ▸ updM_eq _ _ _
        simp only [List.set] at h3 hg_μ5
        have hk5 : zKp (fun c _ => c = it) μ4 μ5 := hg_μ5 ▸ zKp.up
        refine aw_ifnull_n (tgt := 48) dJ26_init_75 (by decide) ?_
        refine aw_locals ?_ (ih (j + 1) (by omega) μ5 (by rw [hrem, zTl_s (by omega), hLj]; rfl) h3 (hk34.tr hk5))
        exact ⟨rfl, rfl, trivial⟩
      · simp only [List.head?_cons, Option.map_some, zrf_s]
        refine aw_putfield (q := 75) dJ26_init_72 gf_J26_26_17 h3 (by first | assumption | simp) (by first | rfl | exact znar_rf _ _ | exact zB_nar _) (by first | rfl | exact zfit_rf _ _ | exact zB_fit _) (Nat.le_of_ble_eq_true rfl) rfl (fun μ5 hg_μ5 => ?_)
        have h3 : μ5 _ = some _ := hg_μ5 ▸ updM_eq _ _ _
        simp only [List.set] at h3 hg_μ5
        have hk5 : zKp (fun c _ => c = it) μ4 μ5 := hg_μ5 ▸ zKp.up
        refine aw_ifnull_r (q := 78) dJ26_init_75 rfl ?_
        exact aw_return dJ26_init_78 rfl (⟨rfl, ⟨j + 1, y :: l, none, by omega, by rw [hrem, zTl_s (by omega), hLj], h3, Or.inr ⟨List.cons_ne_nil _ _, [], by omega, hLj⟩⟩, hk34.tr hk5⟩)
  refine meets_of (by decide +kernel) (Nat.le_of_ble_eq_true rfl) ?_
  first | refine aw_aload_n (i := 0) (q := 1) dJ26_init_0 rfl rfl rfl ?_ | refine aw_aloadN_n (i := 0) (q := 1) dJ26_init_0 rfl rfl rfl ?_ | refine aw_aloadQ_n (i := 0) (q := 1) dJ26_init_0 rfl rfl rfl ?_
  first | refine aw_aload_n (i := 1) (q := 2) dJ26_init_1 rfl rfl rfl ?_ | refine aw_aloadN_n (i := 1) (q := 2) dJ26_init_1 rfl rfl rfl ?_ | refine aw_aloadQ_n (i := 1) (q := 2) dJ26_init_1 rfl rfl rfl ?_
  refine aw_putF (q := 5) dJ26_init_2 pf_J26_1_17 rfl hi hu rfl rfl (Nat.le_of_ble_eq_true rfl) rfl (fun μ1 hg_μ1 => ?_)
  have hi1 : μ1 it = some _ := hg_μ1 ▸ updM_eq _ _ _
  have hk1 : zKp (fun c _ => c = it) μ μ1 := hg_μ1 ▸ zKp.up
  have hm1 := hk1 _ _ _ hm (Ne.symm hitm)
  simp only [List.set] at hi1
  first | refine aw_aload_n (i := 0) (q := 6) dJ26_init_5 rfl rfl rfl ?_ | refine aw_aloadN_n (i := 0) (q := 6) dJ26_init_5 rfl rfl rfl ?_ | refine aw_aloadQ_n (i := 0) (q := 6) dJ26_init_5 rfl rfl rfl ?_
  refine aw_objInit (q := 9) dJ26_init_6 oi_J26_7 (by decide) (by first | exact Nat.le_of_ble_eq_true rfl | simp [zcat_rf, Value.category]) rfl ?_
  first | refine aw_aload_n (i := 0) (q := 10) dJ26_init_9 rfl rfl rfl ?_ | refine aw_aloadN_n (i := 0) (q := 10) dJ26_init_9 rfl rfl rfl ?_ | refine aw_aloadQ_n (i := 0) (q := 10) dJ26_init_9 rfl rfl rfl ?_
  first | refine aw_aload_n (i := 1) (q := 11) dJ26_init_10 rfl rfl rfl ?_ | refine aw_aloadN_n (i := 1) (q := 11) dJ26_init_10 rfl rfl rfl ?_ | refine aw_aloadQ_n (i := 1) (q := 11) dJ26_init_10 rfl rfl rfl ?_
  refine aw_getfield (q := 14) dJ26_init_11 gf_J26_13_19 (by assumption) rfl rfl ?_
  refine aw_putfield (q := 17) dJ26_init_14 gf_J26_19_17 hi1 (by first | assumption | simp) (by first | rfl | exact znar_rf _ _ | exact zB_nar _) (by first | rfl | exact zfit_rf _ _ | exact zB_fit _) (Nat.le_of_ble_eq_true rfl) rfl (fun μ2 hg_μ2 => ?_)
  have hi1 : μ2 _ = some _ := hg_μ2 ▸ updM_eq _ _ _
  simp only [List.set] at hi1 hg_μ2
  have hk2 : zKp (fun c _ => c = it) μ1 μ2 := hg_μ2 ▸ zKp.up
  have hm2 := hk2 _ _ _ hm1 (Ne.symm hitm)
  first | refine aw_aload_n (i := 1) (q := 18) dJ26_init_17 rfl rfl rfl ?_ | refine aw_aloadN_n (i := 1) (q := 18) dJ26_init_17 rfl rfl rfl ?_ | refine aw_aloadQ_n (i := 1) (q := 18) dJ26_init_17 rfl rfl rfl ?_
  refine aw_getfield (q := 21) dJ26_init_18 gf_J26_22_19 (by assumption) rfl rfl ?_
  first | refine aw_astore_n (i := 2) (q := 22) dJ26_init_21 rfl (by decide) rfl ?_ | refine aw_astoreN_n (i := 2) (q := 22) dJ26_init_21 rfl (by decide) rfl ?_ | refine aw_astoreQ_n (i := 2) (q := 22) dJ26_init_21 rfl (by decide) rfl ?_
  first | refine aw_aload_n (i := 0) (q := 23) dJ26_init_22 rfl rfl rfl ?_ | refine aw_aloadN_n (i := 0) (q := 23) dJ26_init_22 rfl rfl rfl ?_ | refine aw_aloadQ_n (i := 0) (q := 23) dJ26_init_22 rfl rfl rfl ?_
  first | refine aw_aload_n (i := 0) (q := 24) dJ26_init_23 rfl rfl rfl ?_ | refine aw_aloadN_n (i := 0) (q := 24) dJ26_init_23 rfl rfl rfl ?_ | refine aw_aloadQ_n (i := 0) (q := 24) dJ26_init_23 rfl rfl rfl ?_
  refine aw_null (q := 25) dJ26_init_24 rfl ?_
  refine aw_dup_x1 (q := 26) dJ26_init_25 (by first | rfl | exact zcat_rf _) (by first | rfl | exact zcat_rf _) rfl ?_
  refine aw_putfield (q := 29) dJ26_init_26 gf_J26_26_17 hi1 (by first | assumption | simp) (by first | rfl | exact znar_rf _ _ | exact zB_nar _) (by first | rfl | exact zfit_rf _ _ | exact zB_fit _) (Nat.le_of_ble_eq_true rfl) rfl (fun μ3 hg_μ3 => ?_)
  have hi1 : μ3 _ = some _ := hg_μ3 ▸ updM_eq _ _ _
  simp only [List.set] at hi1 hg_μ3
  have hk3 : zKp (fun c _ => c = it) μ2 μ3 := hg_μ3 ▸ zKp.up
  refine aw_putfield (q := 32) dJ26_init_29 gf_J26_30_17 hi1 (by first | assumption | simp) (by first | rfl | exact znar_rf _ _ | exact zB_nar _) (by first | rfl | exact zfit_rf _ _ | exact zB_fit _) (Nat.le_of_ble_eq_true rfl) rfl (fun μ4 hg_μ4 => ?_)
  have hi1 : μ4 _ = some _ := hg_μ4 ▸ updM_eq _ _ _
  simp only [List.set] at hi1 hg_μ4
  have hk4 : zKp (fun c _ => c = it) μ3 μ4 := hg_μ4 ▸ zKp.up
  first | refine aw_aload_n (i := 0) (q := 33) dJ26_init_32 rfl rfl rfl ?_ | refine aw_aloadN_n (i := 0) (q := 33) dJ26_init_32 rfl rfl rfl ?_ | refine aw_aloadQ_n (i := 0) (q := 33) dJ26_init_32 rfl rfl rfl ?_
  refine aw_iconst (v := 0) (q := 34) dJ26_init_33 rfl rfl ?_
  refine aw_putfield (q := 37) dJ26_init_34 gf_J26_33_17 hi1 (by first | assumption | simp) (by first | rfl | exact znar_rf _ _ | exact zB_nar _) (by first | rfl | exact zfit_rf _ _ | exact zB_fit _) (Nat.le_of_ble_eq_true rfl) rfl (fun μ5 hg_μ5 => ?_)
  have hi1 : μ5 _ = some _ := hg_μ5 ▸ updM_eq _ _ _
  simp only [List.set] at hi1 hg_μ5
  have hk5 : zKp (fun c _ => c = it) μ4 μ5 := hg_μ5 ▸ zKp.up
  have hk15 := (((hk1.tr hk2).tr hk3).tr hk4).tr hk5
  have hm5 := hk15 _ _ _ hm (Ne.symm hitm)
  first | refine aw_aload_n (i := 2) (q := 38) dJ26_init_37 rfl rfl rfl ?_ | refine aw_aloadN_n (i := 2) (q := 38) dJ26_init_37 rfl rfl rfl ?_ | refine aw_aloadQ_n (i := 2) (q := 38) dJ26_init_37 rfl rfl rfl ?_
  refine aw_ifnull_r (q := 41) dJ26_init_38 rfl ?_
  first | refine aw_aload_n (i := 1) (q := 42) dJ26_init_41 rfl rfl rfl ?_ | refine aw_aloadN_n (i := 1) (q := 42) dJ26_init_41 rfl rfl rfl ?_ | refine aw_aloadQ_n (i := 1) (q := 42) dJ26_init_41 rfl rfl rfl ?_
  refine aw_getfield (q := 45) dJ26_init_42 gf_J26_36_19 (by assumption) rfl rfl ?_
  refine aw_if_le (tgt := 78) (q := 48) dJ26_init_45 (by decide) rfl (fun hZ => absurd hZ (nI_nle hs0 (by omega))) (fun _ => ?_)
  refine aw_locals ?_ (loop n 0 (by omega) μ5 rfl hi1 hk15)
  exact ⟨rfl, rfl, trivial⟩
theorem C_eit_init {u tm : zT} {it m tb n : Nat} {mc : Int32} {sz thr : Nat} {es : Option Nat} {val ν ky : Nat → Nat} {nx ft : Nat → Option Nat} {L : Nat → List Nat} (hi : μ it = some (u, .inr (17, [.null, .null, .int 0, .int 0, .null]))) (hr : zRd G μ R o tb n val ν ky nx ft L) (hm : μ m = some (tm, oHM (some tb) es sz mc thr)) (hn : n < 2 ^ 20) (hu : u ≠ zC) (hs0 : 0 < sz) (hs : sz < 2 ^ 20) : Meets G 3 MJ27_init [.ref it, .ref m] μ (fun v μ' => v = none ∧ zIt μ' u it m n mc ν L (zTl L n n) ∧ zKp (fun c _ => c = it) μ μ') 0 0 := by
  refine meets_of (by decide +kernel) (Nat.le_of_ble_eq_true rfl) ?_
  first | refine aw_aload_n (i := 0) (q := 1) dJ27_init_0 rfl rfl rfl ?_ | refine aw_aloadN_n (i := 0) (q := 1) dJ27_init_0 rfl rfl rfl ?_ | refine aw_aloadQ_n (i := 0) (q := 1) dJ27_init_0 rfl rfl rfl ?_
  first | refine aw_aload_n (i := 1) (q := 2) dJ27_init_1 rfl rfl rfl ?_ | refine aw_aloadN_n (i := 1) (q := 2) dJ27_init_1 rfl rfl rfl ?_ | refine aw_aloadQ_n (i := 1) (q := 2) dJ27_init_1 rfl rfl rfl ?_
  refine aw_callI (q := 5) dJ27_init_2 (C_it_init hi hr hm hn hu hs0 hs) ci_J27_1 rfl rfl (by decide) (by decide) (by first | exact Nat.le_of_ble_eq_true rfl | simp [zcat_rf, Value.category]) rfl (fun v2 μ1 hp => ?_)
  obtain ⟨rfl, h1, h2⟩ := hp
  exact aw_return dJ27_init_5 rfl (⟨rfl, h1, h2⟩)
theorem C_eit_next2 {u tm : zT} {it m tb n x : Nat} {mc : Int32} {sz thr : Nat} {es : Option Nat} {val ν ky : Nat → Nat} {nx ft : Nat → Option Nat} {L : Nat → List Nat} {rem : List Nat} (h : zIt μ u it m n mc ν L (x :: rem)) (hr : zRd G μ R o tb n val ν ky nx ft L) (hm : μ m = some (tm, oHM (some tb) es sz mc thr)) (hn : n < 2 ^ 20) (hu : u ≠ zC) (hut : u ≠ hbT R o) (hun : ∀ x, u ≠ hnT R o x) : Meets G 2 MJ27_next_2 [.ref it] μ (fun v μ' => v = some (.ref (ν x)) ∧ zIt μ' u it m n mc ν L rem ∧ zKp (fun c _ => c = it) μ μ') 0 0 := by
  obtain ⟨fs, hi⟩ : ∃ fs, μ it = some (u, .inr (17, fs)) := by
    obtain ⟨j, s, cur, -, -, h3, -⟩ := h
    exact ⟨_, h3⟩
  refine meets_of (by decide +kernel) (Nat.le_of_ble_eq_true rfl) ?_
  first | refine aw_aload_n (i := 0) (q := 1) dJ27_next_2_0 rfl rfl rfl ?_ | refine aw_aloadN_n (i := 0) (q := 1) dJ27_next_2_0 rfl rfl rfl ?_ | refine aw_aloadQ_n (i := 0) (q := 1) dJ27_next_2_0 rfl rfl rfl ?_
  refine aw_callU (q := 4) dJ27_next_2_1 (C_it_next h hr hm hn hu hut hun) cu_J27_7_17 (by assumption) rfl rfl (by decide) (by decide) (by first | exact Nat.le_of_ble_eq_true rfl | simp [zcat_rf, Value.category]) rfl (fun v1 μ1 hp => ?_)
  obtain ⟨rfl, h1, h2⟩ := hp
  exact aw_areturnR dJ27_next_2_4 rfl (by first | exact Or.inl ⟨_, rfl⟩ | exact Or.inr ⟨_, rfl⟩) (⟨rfl, h1, h2⟩)
theorem C_eit_next {u tm : zT} {it m tb n x : Nat} {mc : Int32} {sz thr : Nat} {es : Option Nat} {val ν ky : Nat → Nat} {nx ft : Nat → Option Nat} {L : Nat → List Nat} {rem : List Nat} (h : zIt μ u it m n mc ν L (x :: rem)) (hr : zRd G μ R o tb n val ν ky nx ft L) (hm : μ m = some (tm, oHM (some tb) es sz mc thr)) (hn : n < 2 ^ 20) (hu : u ≠ zC) (hut : u ≠ hbT R o) (hun : ∀ x, u ≠ hnT R o x) : Meets G 3 MJ27_next [.ref it] μ (fun v μ' => v = some (.ref (ν x)) ∧ zIt μ' u it m n mc ν L rem ∧ zKp (fun c _ => c = it) μ μ') 0 0 := by
  obtain ⟨fs, hi⟩ : ∃ fs, μ it = some (u, .inr (17, fs)) := by
    obtain ⟨j, s, cur, -, -, h3, -⟩ := h
    exact ⟨_, h3⟩
  refine meets_of (by decide +kernel) (Nat.le_of_ble_eq_true rfl) ?_
  first | refine aw_aload_n (i := 0) (q := 1) dJ27_next_0 rfl rfl rfl ?_ | refine aw_aloadN_n (i := 0) (q := 1) dJ27_next_0 rfl rfl rfl ?_ | refine aw_aloadQ_n (i := 0) (q := 1) dJ27_next_0 rfl rfl rfl ?_
  refine aw_callV (q := 4) dJ27_next_1 (C_eit_next2 h hr hm hn hu hut hun) cv_J27_13_17 (by assumption) rfl rfl (by decide) (by decide) (by first | exact Nat.le_of_ble_eq_true rfl | simp [zcat_rf, Value.category]) rfl (fun v1 μ1 hp => ?_)
  obtain ⟨rfl, h1, h2⟩ := hp
  exact aw_areturnR dJ27_next_4 rfl (by first | exact Or.inl ⟨_, rfl⟩ | exact Or.inr ⟨_, rfl⟩) (⟨rfl, h1, h2⟩)
end ZPA
