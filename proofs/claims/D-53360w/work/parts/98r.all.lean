/-! THE PROGRAMME: an event -/
set_option maxRecDepth 100000
theorem tDisplace_D0 {P : zP} {D : Nat → Int32} {s : Nat} (hb : tBd P) : (tDisplace P D s).1 = (tDisplace P tZ s).1 := by
  cases hg : tGoes P s with
  | true => rw [tDisp_goes hb rfl hg, tDisp_goes hb rfl hg]
  | false => rw [tDisp_out hg, tDisp_out hg]
theorem tDispN_2 {P : zP} {D : Nat → Int32} {s j : Nat} {g : Bool} {d t : Int32} (hj : j < 2) : ∀ n, (tDispN P D s g d t n).2 j = D j
  | 0 => rfl
  | n + 1 => by
    have ih := tDispN_2 (P := P) (D := D) (s := s) (g := g) (d := d) (t := t) hj n
    unfold tDispN
    split
    · split
      · try dsimp only
        rw [pk_un (by omega), pk_un (by omega)]
        exact ih
      · exact ih
    · exact ih
/-- one displaced more -/
theorem tDisplace_cnt {P : zP} {D : Nat → Int32} {s : Nat} : (tDisplace P D s).2 0 + (tDisplace P D s).2 1 = D 0 + D 1 + 1 := by
  unfold tDisplace
  split
  · try dsimp only
    rw [tDispN_2 (by decide), tDispN_2 (by decide), pk_us, pk_un (by decide), Int32.add_assoc, Int32.add_comm 1, ← Int32.add_assoc]
  · try dsimp only
    rw [tDispN_2 (by decide), tDispN_2 (by decide), pk_un (by decide), pk_us, Int32.add_assoc]
theorem tDisplace_wd {P : zP} {D : Nat → Int32} {s t w mv : Nat} (hTm : tTimes P) (hs : s < pcn P 9) (e1 : P 3 s 1 = nI (t / 6)) (e2 : P 3 s 2 = nI (t % 6)) (h8 : t < 6360) (hmv : P 0 0 0 = nI mv) (hmv2 : mv ≤ 14) (hw : zWd P (zPlan P) w) (w1 : w ≤ t) (w2 : t + 100 ≤ w + 512) : zWd (tDisplace P D s).1 (zPlan (tDisplace P D s).1) w := by
  intro x hx hz
  rw [tDisplace_cn] at hx
  have hz : (tDisplace P D s).1 3 x 3 = 0 := hz
  rw [tDisplace_sh] at hz
  rw [tDisplace_sh, tDisplace_sh]
  by_cases hg : tGoes P s = true
  · rw [if_pos hg] at hz
    rw [if_pos hg, if_pos hg]
    rw [if_neg (by omega), if_neg (by omega), if_neg (by omega)] at hz
    by_cases e : x = s
    · subst e
      have hu := tDispTo_lt hTm hs e1 (by omega) hmv hmv2 hg
      obtain ⟨u, hu2⟩ : ∃ u, tDispTo P x = u := ⟨_, rfl⟩
      have hu' := (tDisp_time e1 e2 (by omega)).symm.trans hu2
      have u1 := (tFirst_spec hTm (t := t + 1) (by omega)).1
      rw [hu'] at u1
      rw [hu2] at hu ⊢
      rw [if_pos ⟨rfl, rfl⟩, if_neg (by omega), if_pos ⟨rfl, rfl⟩]
      exact ⟨u, by omega, by omega, by omega, rfl, rfl⟩
    · rw [if_neg (fun z => e z.1), if_neg (fun z => e z.1), if_neg (fun z => e z.1), if_neg (fun z => e z.1), if_neg (fun z => e z.1), if_neg (fun z => e z.1)]
      exact hw x hx hz
  · rw [if_neg hg] at hz
    rw [if_neg hg, if_neg hg, if_neg (by omega), if_neg (by omega)]
    by_cases e : x = s
    · rw [if_pos ⟨e, rfl⟩] at hz
      exact absurd hz (by decide)
    · rw [if_neg (fun z => e z.1)] at hz
      exact hw x hx hz
theorem tDisplace_bd {P : zP} {D : Nat → Int32} {s : Nat} (h : tBd P) : tBd (tDisplace P D s).1 := fun b hb => by
  rw [tDisplace_cn] at hb
  rw [tDisplace_bk (Or.inl (by decide))]
  exact h b hb
section ZPT1
variable {G : zG} {μ μ' : zM} {p o : Nat} {P : zP} {A : Nat → Nat → Nat} {c : Nat → Int32}
/-- the programme's own numbers change: events, today -/
theorem zPR.glb {P' : zP} (h : zPR G μ p o P A c) (hμ : μ' = updM μ p (pgT 0 o, oPG A c P')) (h0 : ∀ j, j ≠ 11 → j ≠ 6 → P' 0 0 j = P 0 0 j) (hs : ∀ s, zS s → ∀ i j, P' s i j = P s i j) : zPR G μ' p o P' A c ∧ zKp (zKo o) μ μ' := by
  obtain ⟨h1, ⟨f, h2, h3⟩, h4⟩ := h
  have hk : zKp (fun _ u => u = pgT 0 o) μ μ' := hμ ▸ zKp.put h1 rfl
  have nt : ∀ (b m : Nat), m ≠ 20000 → ¬ ((m, o) : zT) = pgT 0 o := fun b m hm q => hm (congrArg Prod.fst q)
  have b4 : ∀ b j, P' 4 b j = P 4 b j := hs 4 (Or.inr (Or.inr (Or.inr (Or.inl rfl))))
  refine ⟨⟨hμ ▸ updM_eq _ _ _, ⟨f, hk _ _ _ h2 (nt 0 _ (by omega)), fun j hj => (h3 j hj).trans (h0 j (by omega) (by omega)).symm⟩, fun s hs' => ?_⟩, hμ ▸ zKp.put h1 ⟨rfl, Nat.le_refl _⟩⟩
  · have sl := hs'.lt
    have s5 : s ≠ 5 := by unfold zS at hs'; omega
    have ec : pcn P' (6 + s) = pcn P (6 + s) := by unfold pcn; rw [h0 (6 + s) (by omega) (by omega)]
    rw [ec]
    refine ⟨(h4 s hs').1.kp hk (fun b => nt b _ (by omega)) (fun b => nt b _ (by omega)), fun i hi => ((h4 s hs').2 i hi).kp hs' hk (fun b q => ?_) (fun b => nt b _ (by omega)) (fun b => nt b _ (by omega)) (zSm.of (fun j _ => hs s hs' i j) (h0 10 (by omega) (by omega)) b4)⟩
    have e1 : 0 = 20000 + 0 := congrArg Prod.fst q
    omega
/-- the events' map while an event is laid: k of its times lie in it -/
def zEvI (P : zP) (t0 k : Nat) (ks : List Nat) (val : Nat → Nat) : Prop := (∀ h, h ∈ ks → ((val h < pcn P 11 ∧ zCov P (val h) h) ∨ (val h = pcn P 11 ∧ t0 ≤ h ∧ h < t0 + k)) ∧ h < 8192) ∧ (∀ e h, e < pcn P 11 → h < 8192 → zCov P e h → h ∈ ks ∧ val h = e) ∧ (∀ h, t0 ≤ h → h < t0 + k → h ∈ ks ∧ val h = pcn P 11) ∧ ks.length ≤ 6 * pcn P 11 + k
theorem zEvI.z {ks : List Nat} {val : Nat → Nat} {t0 : Nat} (h : zEvq P ks val) : zEvI P t0 0 ks val := by
  obtain ⟨a1, a2, a3⟩ := h
  exact ⟨fun x hx => ⟨Or.inl ⟨(a1 x hx).1, (a1 x hx).2.1⟩, (a1 x hx).2.2⟩, a2, fun x x1 x2 => by omega, a3⟩
theorem zEvI.s {ks : List Nat} {val : Nat → Nat} {t0 k : Nat} (h : zEvI P t0 k ks val) (h8 : t0 + k < 8192) (hn : ∀ e, e < pcn P 11 → ¬ zCov P e (t0 + k)) : t0 + k ∉ ks ∧ zEvI P t0 (k + 1) ((t0 + k) :: ks) (upN val (t0 + k) (pcn P 11)) := by
  obtain ⟨a1, a2, a3, a4⟩ := h
  have hnot : t0 + k ∉ ks := fun z => by
    rcases (a1 _ z).1 with ⟨q1, q2⟩ | ⟨-, -, q⟩
    · exact hn _ q1 q2
    · omega
  refine ⟨hnot, fun x hx => ?_, fun e x e1 e2 e3 => ?_, fun x x1 x2 => ?_, by rw [List.length_cons]; omega⟩
  · rcases List.mem_cons.mp hx with rfl | hx
    · rw [upN_eq]; exact ⟨Or.inr ⟨rfl, by omega, by omega⟩, h8⟩
    · have hne : x ≠ t0 + k := fun e => hnot (e ▸ hx)
      rw [upN_ne hne]
      obtain ⟨b1, b2⟩ := a1 x hx
      refine ⟨b1.imp id (fun q => ⟨q.1, q.2.1, by omega⟩), b2⟩
  · obtain ⟨b1, b2⟩ := a2 e x e1 e2 e3
    exact ⟨List.mem_cons_of_mem _ b1, (upN_ne (show x ≠ t0 + k from fun z => hnot (z ▸ b1))).trans b2⟩
  · by_cases q : x = t0 + k
    · subst q; exact ⟨List.mem_cons_self, upN_eq⟩
    · obtain ⟨b1, b2⟩ := a3 x x1 (by omega)
      exact ⟨List.mem_cons_of_mem _ b1, (upN_ne q).trans b2⟩
theorem zEvI.e {ks : List Nat} {val : Nat → Nat} {day sl many : Nat} (h : zEvI P (6 * day + sl) many ks val) (hO : tOk P) (hsm : sl + many ≤ 6) (hm : 1 ≤ many) (hd : day < 1300) : zEvq (tEvAdd P (nI day) (nI sl) (nI many)) ks val := by
  obtain ⟨a1, a2, a3, a4⟩ := h
  have e11 : pcn (tEvAdd P (nI day) (nI sl) (nI many)) 11 = pcn P 11 + 1 := by rw [tEvAdd_cn hO, if_pos rfl]
  have eco : ∀ e x, e < pcn P 11 → (zCov (tEvAdd P (nI day) (nI sl) (nI many)) e x ↔ zCov P e x) := fun e x he => by
    unfold zCov
    rw [tEvAdd_e he, tEvAdd_e he, tEvAdd_e he]
  have f0 : tEvAdd P (nI day) (nI sl) (nI many) 5 (pcn P 11) 0 = nI day := by unfold tEvAdd; rw [updP_ne (by omega), updP_ne (by omega), updP_ne (by omega), updP_eq]
  have f1 : tEvAdd P (nI day) (nI sl) (nI many) 5 (pcn P 11) 1 = nI sl := by unfold tEvAdd; rw [updP_ne (by omega), updP_ne (by omega), updP_eq]
  have f2 : tEvAdd P (nI day) (nI sl) (nI many) 5 (pcn P 11) 2 = nI many := by unfold tEvAdd; rw [updP_ne (by omega), updP_eq]
  have ecn : ∀ x, x < 8192 → (zCov (tEvAdd P (nI day) (nI sl) (nI many)) (pcn P 11) x ↔ 6 * day + sl ≤ x ∧ x < 6 * day + sl + many) := fun x hx => by
    unfold zCov
    rw [f0, f1, f2, nI_add, show nI (sl + many) - 1 = nI (sl + many - 1) from pk_sub (a := sl + many) (b := 1) (by omega)]
    refine ⟨fun ⟨q1, q2, q3⟩ => ?_, fun ⟨q1, q2⟩ => ⟨?_, ?_, ?_⟩⟩
    · have r1 := (nI_eq (by omega) (by omega)).mp q1
      have r2 := (nI_leI (by omega) (by omega)).mp q2
      have r3 := (nI_leI (by omega) (by omega)).mp q3
      omega
    · congr 1; omega
    · exact (nI_leI (by omega) (by omega)).mpr (by omega)
    · exact (nI_leI (by omega) (by omega)).mpr (by omega)
  refine ⟨fun x hx => ?_, fun e x e1 e2 e3 => ?_, by rw [e11]; omega⟩
  · obtain ⟨b1, b2⟩ := a1 x hx
    rw [e11]
    rcases b1 with ⟨c1, c2⟩ | ⟨c1, c2, c3⟩
    · exact ⟨by omega, (eco _ _ c1).mpr c2, b2⟩
    · rw [c1]; exact ⟨by omega, (ecn x b2).mpr ⟨c2, c3⟩, b2⟩
  · rw [e11] at e1
    by_cases q : e < pcn P 11
    · exact a2 e x q e2 ((eco _ _ q).mp e3)
    · have q : e = pcn P 11 := by omega
      subst q
      obtain ⟨c1, c2⟩ := (ecn x e2).mp e3
      exact a3 x c1 c2
end ZPT1

/-! THE PROGRAMME: event, the walk -/
set_option maxRecDepth 100000
section ZPU1
variable {G : zG} {μ μ' : zM} {p o : Nat} {P : zP} {A : Nat → Nat → Nat} {c : Nat → Int32}
/-- what event leaves -/
def zEvP (G : zG) (μ : zM) (p o : Nat) (T : zP × (Nat → Int32)) (A : Nat → Nat → Nat) (c : Nat → Int32) : Option Value → zM → Prop := fun v μ' => v = some (.int (T.2 0 + T.2 1)) ∧ zPR G μ' p o T.1 A c ∧ zPM G μ' o T.1 A ∧ zKp (zOw o) μ μ'
theorem zTm_of {a d s t : Nat} (h : μ a = some ((0, 0), oTime (nI d) (nI s))) (hs : s < 6) (ht : t = 6 * d + s) : zTim μ a t := by
  rw [zTim, show t / 6 = d by omega, show t % 6 = s by omega]
  exact h
theorem zKp_ow_pg {T : Nat → zT → Prop} (h : zPR G μ p o P A c) (hk : zKp T μ μ') (hT : ∀ b, ¬ T b (pgT 0 o)) : μ' p = some (pgT 0 o, oPG A c P) := hk _ _ _ h.1 (hT _)
set_option maxHeartbeats 2000000 in
/-- the second loop: the shows at the event's times -/
theorem ev_loop2 {P1 : zP} {day sl many w mv : Nat} {D : Nat → Int32} {ks' : List Nat} {val' : Nat → Nat} (hI : tTellI P1 P1) (hbd : tBd P1) (hmv : P1 0 0 0 = nI mv) (hmv2 : mv ≤ 14) (hsm : sl + many ≤ 6) (hd : day ≤ 1050) (hEv : zEvq P1 ks' val') (hw : zWd P1 (zPlan P1) w) (w1 : w ≤ 6 * day) (w2 : 6 * day + 105 ≤ w + 512) : ∀ (rem k : Nat) (μ2 : zM), k + rem = many → zPR G μ2 p o (tTellN P1 D (nI day) sl k).1 A c → (∃ ks val, zMap1 G μ2 o A ks val ∧ zPlq (tTellN P1 D (nI day) sl k).1 (zPlan (tTellN P1 D (nI day) sl k).1) ks val) → zMap2 G μ2 o A ks' val' → zKp (zOw o) μ μ2 → tBd (tTellN P1 D (nI day) sl k).1 → zWd (tTellN P1 D (nI day) sl k).1 (zPlan (tTellN P1 D (nI day) sl k).1) w → (∀ i j, (tTellN P1 D (nI day) sl k).1 5 i j = P1 5 i j) → ∀ bc bs, rem * (2 * pcn P1 10 + 1227) ≤ bc → rem * (8 * pcn P1 10 + 6743) ≤ bs → AW G 12 MX1_event (zEvP G μ p o (tTellN P1 D (nI day) sl many) A c) bc bs 60 [(0, .ref p), (1, .int (nI day)), (2, .int (nI sl)), (3, .int (nI many)), (4, .int ((tTellN P1 D (nI day) sl k).2 0 + (tTellN P1 D (nI day) sl k).2 1)), (5, .int (nI (sl + k)))] [] μ2 := by
  intro rem
  induction rem with
  | zero =>
    intro k μ2 hk h2 hM hm2 hkp hb2 hw2 h5 bc bs hbc hbs
    have ek : k = many := by omega
    subst ek
    refine aw_iload (q := 62) dX1_event_60 rfl rfl ?_
    refine aw_iload_n (i := 2) (q := 63) dX1_event_62 rfl rfl rfl ?_
    refine aw_iload_n (i := 3) (q := 64) dX1_event_63 rfl rfl rfl ?_
    refine aw_iadd (q := 65) dX1_event_64 rfl ?_
    refine aw_icmp_ge (tgt := 109) (q := 68) dX1_event_65 (by decide) rfl (fun _ => ?_) (fun hZ => absurd ((by rw [nI_add]; exact nI_le (a := sl + k) (b := sl + k) (by omega) (by omega))) hZ)
    refine aw_iload (q := 111) dX1_event_109 rfl rfl ?_
    have hI2 := tTellN_inv (D := D) (slot := sl) hI rfl (show day ≤ 1060 by omega) hmv hmv2 k
    exact aw_ireturn dX1_event_111 rfl (by first | rfl | exact zB_nar _) (⟨rfl, h2, ⟨hM, ks', val', hm2, hEv.congr (hI2.2.2.2.2 11) h5⟩, hkp⟩)
  | succ rem ih =>
    intro k μ2 hk h2 hM hm2 hkp hb2 hw2 h5 bc bs hbc hbs
    have hI2 := tTellN_inv (D := D) (slot := sl) hI rfl (show day ≤ 1060 by omega) hmv hmv2 k
    obtain ⟨i1, i2, i3, i4, i5⟩ := hI2
    obtain ⟨ks, val, m1, hPl⟩ := hM
    have hEv2 := hEv.congr (i5 11) h5
    rw [Nat.succ_mul] at hbc hbs
    obtain ⟨B1, hB1⟩ : ∃ x, rem * (2 * pcn P1 10 + 1227) = x := ⟨_, rfl⟩
    obtain ⟨B2, hB2⟩ : ∃ x, rem * (8 * pcn P1 10 + 6743) = x := ⟨_, rfl⟩
    rw [hB1] at hbc
    rw [hB2] at hbs
    have hp2 := h2.1
    have s60 : pcn (tTellN P1 D (nI day) sl k).1 9 ≤ 60 := i1.s.2
    obtain ⟨t, ht⟩ : ∃ t, t = 6 * day + (sl + k) := ⟨_, rfl⟩
    have eat := hPl.at (h := t) (by omega)
    rw [show t / 6 = day by omega, show t % 6 = sl + k by omega] at eat
    obtain ⟨C1, hC1⟩ : ∃ x, x = 2 * pcn P1 10 + 1226 := ⟨_, rfl⟩
    obtain ⟨C2, hC2⟩ : ∃ x, x = 8 * pcn P1 10 + 6741 := ⟨_, rfl⟩
    refine AW.bud (bc' := (B1 + C1) + 1) (bs' := (B2 + C2) + 2) ?_ (by omega) (by omega)
    refine aw_iload (q := 62) dX1_event_60 rfl rfl ?_
    refine aw_iload_n (i := 2) (q := 63) dX1_event_62 rfl rfl rfl ?_
    refine aw_iload_n (i := 3) (q := 64) dX1_event_63 rfl rfl rfl ?_
    refine aw_iadd (q := 65) dX1_event_64 rfl ?_
    refine aw_icmp_ge (tgt := 109) (q := 68) dX1_event_65 (by decide) rfl (fun hZ => absurd hZ ((by rw [nI_add]; exact nI_ge (a := sl + k) (b := sl + many) (by omega) (by omega)))) (fun _ => ?_)
    have h2' := h2
    first | refine aw_new (q := 71) dX1_event_68 nw_X1_207 (0, 0) (by first | assumption | simp) rfl (fun b μ3 hn_b hg_μ3 => ?_) | (refine AW.sub (bc' := 1) (bs' := 2) (by omega) (by omega) ?_; refine aw_new (q := 71) dX1_event_68 nw_X1_207 (0, 0) (by first | assumption | simp) rfl (fun b μ3 hn_b hg_μ3 => ?_))
    have h_b : μ3 b = some _ := hg_μ3 ▸ updM_eq _ _ _
    have k3 : zKp zF μ2 μ3 := hg_μ3 ▸ zKp.new hn_b
    refine aw_dup (q := 72) dX1_event_71 (by first | rfl | exact zcat_rf _) rfl ?_
    refine aw_iload_n (i := 1) (q := 73) dX1_event_72 rfl rfl rfl ?_
    refine aw_iload (q := 75) dX1_event_73 rfl rfl ?_
    refine aw_z ?_
    refine aw_callI (q := 78) dX1_event_75 (C_Time_init h_b z00_nz) ci_X1_264 rfl rfl (by decide) (by decide) (by first | exact Nat.le_of_ble_eq_true rfl | simp [zcat_rf, Value.category]) rfl (fun v75 μ4 hp => ?_)
    obtain ⟨rfl, hg4⟩ := hp
    have k4 : zKp zF μ2 μ4 := fun x u e hx _ => hg4 ▸ (updM_ne (zneN hx hn_b)).trans (k3 x u e hx (fun z => z))
    have hb4 : zTim μ4 b t := zTm_of (d := day) (s := sl + k) (hg4 ▸ updM_eq _ _ _) (by omega) ht
    have h4 := zF.pr h2 k4
    have m14 := zHM.fr m1 k4
    have m24 := zHM.fr hm2 k4
    have hp4 := h4.1
    obtain ⟨f4, c4⟩ := zHM.cell m14
    first | refine aw_astore (q := 80) dX1_event_78 (by decide) rfl ?_ | refine aw_astoreN (q := 80) dX1_event_78 (by decide) rfl ?_ | refine aw_astoreQ (q := 80) dX1_event_78 (by decide) rfl ?_
    first | refine aw_aload_n (i := 0) (q := 81) dX1_event_80 rfl rfl rfl ?_ | refine aw_aloadN_n (i := 0) (q := 81) dX1_event_80 rfl rfl rfl ?_ | refine aw_aloadQ_n (i := 0) (q := 81) dX1_event_80 rfl rfl rfl ?_
    refine aw_getfield (q := 84) dX1_event_81 gf_X1_37_1 (by assumption) rfl rfl ?_
    first | refine aw_aload (q := 86) dX1_event_84 rfl rfl ?_ | refine aw_aloadN (q := 86) dX1_event_84 rfl rfl ?_ | refine aw_aloadQ (q := 86) dX1_event_84 rfl rfl ?_
    refine aw_z ?_
    refine aw_callF (q := 91) dX1_event_86 (C_HM_contains m14 hb4 (by omega)) cf_X1_211_19 (by assumption) rfl rfl (by decide) (by decide) (by first | exact Nat.le_of_ble_eq_true rfl | simp [zcat_rf, Value.category]) rfl (zpk ?_)
    refine aw_if_eq (tgt := 103) (q := 94) dX1_event_91 (by decide) rfl (fun b1 => ?_) (fun b1 => ?_)
    · skip
      have hnk : t ∉ ks := zB_ne.mp b1
      rw [if_neg hnk] at eat
      have es : tTellN P1 D (nI day) sl (k + 1) = tTellN P1 D (nI day) sl k := if_pos (by rw [eat]; exact zNeg6)
      refine aw_iinc (q := 106) dX1_event_103 rfl (by first | exact nI_1 _ | rfl) (by decide) rfl ?_
      refine aw_goto (tgt := 60) dX1_event_106 (by decide) ?_
      refine AW.bud (bc' := B1) (bs' := B2) ?_ (by omega) (by omega)
      exact aw_locals (by exact ⟨rfl, rfl, rfl, rfl, by rw [es]; rfl, rfl, trivial⟩) (ih (k + 1) μ4 (by omega) (by rw [es]; exact h4) (by rw [es]; exact ⟨ks, val, m14, hPl⟩) m24 (hkp.tr k4.f0) (by rw [es]; exact hb2) (by rw [es]; exact hw2) (by rw [es]; exact h5) _ _ (by omega) (by omega))
    · skip
      have hyk : t ∈ ks := Classical.byContradiction (fun n => b1 (zB_f n))
      rw [if_pos hyk] at eat
      obtain ⟨v1, v2, v3, v4, -⟩ := hPl.1 t hyk
      have es : tTellN P1 D (nI day) sl (k + 1) = tDisplace (tTellN P1 D (nI day) sl k).1 (tTellN P1 D (nI day) sl k).2 (val t) := by
        refine (if_neg (by rw [eat]; exact Int32.not_lt.mpr (nI_le (a := 0) (b := val t) (by omega) (by omega)))).trans ?_
        rw [eat, nI_clamp (by omega)]
      have hds := C_displaces (w := w) (mv := mv) h4 m14 hPl m24 hEv2 i1 i2 hb2 i3 (i4.trans hmv) hmv2 hyk (by omega) hb4 hw2 (by omega) (by omega)
      rw [i5 10, ← hC1, ← hC2] at hds
      first | refine aw_aload_n (i := 0) (q := 95) dX1_event_94 rfl rfl rfl ?_ | refine aw_aloadN_n (i := 0) (q := 95) dX1_event_94 rfl rfl rfl ?_ | refine aw_aloadQ_n (i := 0) (q := 95) dX1_event_94 rfl rfl rfl ?_
      first | refine aw_aload (q := 97) dX1_event_95 rfl rfl ?_ | refine aw_aloadN (q := 97) dX1_event_95 rfl rfl ?_ | refine aw_aloadQ (q := 97) dX1_event_95 rfl rfl ?_
      refine aw_callV (q := 100) dX1_event_97 (hds) cv_X1_267_1 (by assumption) rfl rfl (by decide) (by decide) (by first | exact Nat.le_of_ble_eq_true rfl | simp [zcat_rf, Value.category]) rfl (fun v97 μ5 hp => ?_)
      obtain ⟨rfl, h6, g6, m26, k6⟩ := hp
      rw [← tDisplace_D0 (D := (tTellN P1 D (nI day) sl k).2) hb2, ← es] at h6 g6
      refine aw_iinc (q := 103) dX1_event_100 rfl (by first | exact nI_1 _ | rfl) (by decide) rfl ?_
      refine aw_iinc (q := 106) dX1_event_103 rfl (by first | exact nI_1 _ | rfl) (by decide) rfl ?_
      refine aw_goto (tgt := 60) dX1_event_106 (by decide) ?_
      refine AW.bud (bc' := B1) (bs' := B2) ?_ (by omega) (by omega)
      exact aw_locals (by exact ⟨rfl, rfl, rfl, rfl, by rw [es, tDisplace_cnt]; rfl, rfl, trivial⟩) (ih (k + 1) μ5 (by omega) h6 g6 m26 ((hkp.tr k4.f0).tr k6) (by rw [es]; exact tDisplace_bd hb2) (by rw [es]; exact tDisplace_wd (t := t) (mv := mv) i3 v1 v3 v4 (by omega) (i4.trans hmv) hmv2 hw2 (by omega) (by omega)) (fun i j => by rw [es, tDisplace_o (by omega)]; exact h5 i j) _ _ (by omega) (by omega))
set_option maxHeartbeats 2000000 in
theorem C_event {day sl many w mv : Nat} (h : zPR G μ p o P A c) (hM : zPM G μ o P A) (hO : tOk P) (hB : tBkOk P) (hbd : tBd P) (hTm : tTimes P) (hmv : P 0 0 0 = nI mv) (hmv2 : mv ≤ 14) (hsm : sl + many ≤ 6) (hm1 : 1 ≤ many) (hd : day ≤ 1050) (hE : pcn P 11 < 20) (hfr : ∀ k, k < many → tEventAt P (nI day) (nI (sl + k)) < 0) (hw : zWd P (zPlan P) w) (w1 : w ≤ 6 * day) (w2 : 6 * day + 105 ≤ w + 512) : Meets G 12 MX1_event [.ref p, .int (nI day), .int (nI sl), .int (nI many)] μ (zEvP G μ p o (tTell P tZ (nI day) sl many) A c) (many * (2 * pcn P 10 + 1227) + many * 1133) (many * (8 * pcn P 10 + 6743) + many * 6552) := by
  obtain ⟨⟨ks0, val0, m10, hPl0⟩, ks'0, val'0, m20, hEv0⟩ := hM
  have eE := hO.e.1
  have e20 := hO.e.2
  have hI := tEvAdd_inv (day := nI day) (slot := nI sl) (many := nI many) hO hB hTm rfl (show day ≤ 1060 by omega) hE
  obtain ⟨P1, hP1⟩ : ∃ P1, tEvAdd P (nI day) (nI sl) (nI many) = P1 := ⟨_, rfl⟩
  have ecP : ∀ j, j ≠ 11 → pcn P1 j = pcn P j := fun j hj => by rw [← hP1, tEvAdd_cn hO, if_neg hj]
  have eo : ∀ s i j, s ≠ 5 ∧ (s ≠ 0 ∨ j ≠ 11) → P1 s i j = P s i j := fun s i j q => by rw [← hP1]; exact tEvAdd_o q
  obtain ⟨B1, hB1⟩ : ∃ x, many * (2 * pcn P 10 + 1227) = x := ⟨_, rfl⟩
  obtain ⟨B2, hB2⟩ : ∃ x, many * (8 * pcn P 10 + 6743) = x := ⟨_, rfl⟩
  rw [hB1, hB2]
  have eT : tTell P tZ (nI day) sl many = tTellN P1 (tD0 tZ 4) (nI day) sl many := by unfold tTell; rw [hP1]
  rw [eT]
  have fin : ∀ (μ2 : zM) (ks' : List Nat) (val' : Nat → Nat), zPR G μ2 p o P A c → zMap1 G μ2 o A ks0 val0 → zMap2 G μ2 o A ks' val' → zEvI P (6 * day + sl) many ks' val' → zKp (zOw o) μ μ2 → AW G 12 MX1_event (zEvP G μ p o (tTellN P1 (tD0 tZ 4) (nI day) sl many) A c) B1 B2 47 [(0, .ref p), (1, .int (nI day)), (2, .int (nI sl)), (3, .int (nI many)), (4, .int 0), (5, .int (nI (sl + many)))] [] μ2 := by
    intro μ2 ks' val' h2 m1 m2 hev hkp
    have hp2 := h2.1
    have hpz : pgT 0 o ≠ zC := fun e => by have e1 : 20000 + 0 = 0 := congrArg Prod.fst e; omega
    have hev2 := hev.e hO hsm hm1 (by omega)
    rw [hP1] at hev2
    first | refine aw_aload_n (i := 0) (q := 48) dX1_event_47 rfl rfl rfl ?_ | refine aw_aloadN_n (i := 0) (q := 48) dX1_event_47 rfl rfl rfl ?_ | refine aw_aloadQ_n (i := 0) (q := 48) dX1_event_47 rfl rfl rfl ?_
    refine aw_dup (q := 49) dX1_event_48 (by first | rfl | exact zcat_rf _) rfl ?_
    refine aw_getfield (q := 52) dX1_event_49 gf_X1_101_1 (by assumption) rfl rfl ?_
    refine aw_iconst (v := 1) (q := 53) dX1_event_52 rfl rfl ?_
    refine aw_iadd (q := 54) dX1_event_53 rfl ?_
    refine aw_putfield (q := 57) dX1_event_54 gf_X1_101_1 hp2 (by first | assumption | simp) (by first | rfl | exact znar_rf _ _ | exact zB_nar _) (by first | rfl | exact zfit_rf _ _ | exact zB_fit _) (Nat.le_of_ble_eq_true rfl) rfl (fun μ3 hg_μ3 => ?_)
    have hp2 : μ3 _ = some _ := hg_μ3 ▸ updM_eq _ _ _
    simp only [List.set] at hp2 hg_μ3
    have q11 : P 0 0 11 + 1 = P1 0 0 11 := by
      rw [← hP1]; unfold tEvAdd; rw [updP_eq, eE]; exact nI_1 _
    obtain ⟨r1, r2⟩ := h2.glb (μ' := μ3) (P' := P1) (by rw [hg_μ3, q11, show P 0 0 6 = P1 0 0 6 from (eo 0 0 6 (by omega)).symm]) (fun j j1 j2 => eo 0 0 j (by omega)) (fun s hs i j => eo s i j (by have := hs.lt; unfold zS at hs; omega))
    refine aw_iload_n (i := 2) (q := 58) dX1_event_57 rfl rfl rfl ?_
    refine aw_istore (q := 60) dX1_event_58 (by decide) rfl ?_
    exact aw_locals (by exact ⟨rfl, rfl, rfl, rfl, rfl, rfl, trivial⟩) (ev_loop2 (P1 := P1) (mv := mv) (w := w) (by rw [← hP1]; exact hI) (fun b hb => by rw [ecP 10 (by decide)] at hb; rw [eo 4 b 3 (by omega)]; exact hbd b hb) ((eo 0 0 0 (by omega)).trans hmv) hmv2 hsm hd hev2 (fun s hs hz => by rw [ecP 9 (by decide)] at hs; have hz : P1 3 s 3 = 0 := hz; rw [eo 3 s 3 (by omega)] at hz; rw [eo 3 s 1 (by omega), eo 3 s 2 (by omega)]; exact hw s hs hz) w1 w2 many 0 μ3 (by omega) r1 ⟨ks0, val0, zHM.ko m1 r2 (by omega) (by omega), hPl0.congr (ecP 9 (by decide)) (fun s hs => ⟨by show P1 3 s 3 = 0 ↔ P 3 s 3 = 0; rw [eo 3 s 3 (by omega)], fun _ => ⟨eo 3 s 1 (by omega), eo 3 s 2 (by omega)⟩⟩)⟩ (zHM.ko m2 r2 (by omega) (by omega)) (hkp.tr r2.ko) (fun b hb => by rw [ecP 10 (by decide)] at hb; rw [eo 4 b 3 (by omega)]; exact hbd b hb) (fun s hs hz => by rw [ecP 9 (by decide)] at hs; have hz : P1 3 s 3 = 0 := hz; rw [eo 3 s 3 (by omega)] at hz; rw [eo 3 s 1 (by omega), eo 3 s 2 (by omega)]; exact hw s hs hz) (fun _ _ => rfl) _ _ (by rw [ecP 10 (by decide), hB1]; exact Nat.le_refl _) (by rw [ecP 10 (by decide), hB2]; exact Nat.le_refl _))
  have loop : ∀ (rem k : Nat) (μ2 : zM) (ks' : List Nat) (val' : Nat → Nat), k + rem = many → zPR G μ2 p o P A c → zMap1 G μ2 o A ks0 val0 → zMap2 G μ2 o A ks' val' → zEvI P (6 * day + sl) k ks' val' → zKp (zOw o) μ μ2 → ∀ bc bs, B1 + rem * 1133 ≤ bc → B2 + rem * 6552 ≤ bs → AW G 12 MX1_event (zEvP G μ p o (tTellN P1 (tD0 tZ 4) (nI day) sl many) A c) bc bs 6 [(0, .ref p), (1, .int (nI day)), (2, .int (nI sl)), (3, .int (nI many)), (4, .int 0), (5, .int (nI (sl + k)))] [] μ2 := by
    intro rem
    induction rem with
    | zero =>
      intro k μ2 ks' val' hk h2 m1 m2 hev hkp bc bs hbc hbs
      have ek : k = many := by omega
      subst ek
      refine aw_iload (q := 8) dX1_event_6 rfl rfl ?_
      refine aw_iload_n (i := 2) (q := 9) dX1_event_8 rfl rfl rfl ?_
      refine aw_iload_n (i := 3) (q := 10) dX1_event_9 rfl rfl rfl ?_
      refine aw_iadd (q := 11) dX1_event_10 rfl ?_
      refine aw_icmp_ge (tgt := 47) (q := 14) dX1_event_11 (by decide) rfl (fun _ => ?_) (fun hZ => absurd ((by rw [nI_add]; exact nI_le (a := sl + k) (b := sl + k) (by omega) (by omega))) hZ)
      exact AW.bud (fin μ2 ks' val' h2 m1 m2 hev hkp) (by omega) (by omega)
    | succ rem ih =>
      intro k μ2 ks' val' hk h2 m1 m2 hev hkp bc bs hbc hbs
      have hp2 := h2.1
      obtain ⟨t, ht⟩ : ∃ t, t = 6 * day + (sl + k) := ⟨_, rfl⟩
      have hnc : ∀ e, e < pcn P 11 → ¬ zCov P e (6 * day + sl + k) := fun e he z => by
        obtain ⟨b1, b2⟩ := hEv0.2.1 e _ he (by omega) z
        have q := hEv0.at (h := 6 * day + sl + k) (by omega)
        rw [if_pos b1, b2, show (6 * day + sl + k) / 6 = day by omega, show (6 * day + sl + k) % 6 = sl + k by omega] at q
        have q2 := hfr k (by omega)
        rw [q] at q2
        exact absurd q2 (Int32.not_lt.mpr (nI_le (a := 0) (b := e) (by omega) (by omega)))
      obtain ⟨hnot, hev1⟩ := hev.s (by omega) hnc
      rw [show 6 * day + sl + k = t by omega] at hnot hev1
      obtain ⟨X1, hX1⟩ : ∃ x, B1 + rem * 1133 = x := ⟨_, rfl⟩
      obtain ⟨X2, hX2⟩ : ∃ x, B2 + rem * 6552 = x := ⟨_, rfl⟩
      obtain ⟨Y1, hY1⟩ : ∃ x : Nat, x = 1132 := ⟨_, rfl⟩
      obtain ⟨Y2, hY2⟩ : ∃ x : Nat, x = 6550 := ⟨_, rfl⟩
      refine AW.bud (bc' := (X1 + Y1) + 1) (bs' := (X2 + Y2) + 2) ?_ (by omega) (by omega)
      refine aw_iload (q := 8) dX1_event_6 rfl rfl ?_
      refine aw_iload_n (i := 2) (q := 9) dX1_event_8 rfl rfl rfl ?_
      refine aw_iload_n (i := 3) (q := 10) dX1_event_9 rfl rfl rfl ?_
      refine aw_iadd (q := 11) dX1_event_10 rfl ?_
      refine aw_icmp_ge (tgt := 47) (q := 14) dX1_event_11 (by decide) rfl (fun hZ => absurd hZ ((by rw [nI_add]; exact nI_ge (a := sl + k) (b := sl + many) (by omega) (by omega)))) (fun _ => ?_)
      first | refine aw_aload_n (i := 0) (q := 15) dX1_event_14 rfl rfl rfl ?_ | refine aw_aloadN_n (i := 0) (q := 15) dX1_event_14 rfl rfl rfl ?_ | refine aw_aloadQ_n (i := 0) (q := 15) dX1_event_14 rfl rfl rfl ?_
      refine aw_getfield (q := 18) dX1_event_15 gf_X1_41_1 (by assumption) rfl rfl ?_
      first | refine aw_new (q := 21) dX1_event_18 nw_X1_207 (0, 0) (by first | assumption | simp) rfl (fun b μ3 hn_b hg_μ3 => ?_) | (refine AW.sub (bc' := 1) (bs' := 2) (by omega) (by omega) ?_; refine aw_new (q := 21) dX1_event_18 nw_X1_207 (0, 0) (by first | assumption | simp) rfl (fun b μ3 hn_b hg_μ3 => ?_))
      have h_b : μ3 b = some _ := hg_μ3 ▸ updM_eq _ _ _
      have k3 : zKp zF μ2 μ3 := hg_μ3 ▸ zKp.new hn_b
      refine aw_dup (q := 22) dX1_event_21 (by first | rfl | exact zcat_rf _) rfl ?_
      refine aw_iload_n (i := 1) (q := 23) dX1_event_22 rfl rfl rfl ?_
      refine aw_iload (q := 25) dX1_event_23 rfl rfl ?_
      refine aw_z ?_
      refine aw_callI (q := 28) dX1_event_25 (C_Time_init h_b z00_nz) ci_X1_264 rfl rfl (by decide) (by decide) (by first | exact Nat.le_of_ble_eq_true rfl | simp [zcat_rf, Value.category]) rfl (fun v25 μ4 hp => ?_)
      obtain ⟨rfl, hg4⟩ := hp
      have k4 : zKp zF μ2 μ4 := fun x u e hx _ => hg4 ▸ (updM_ne (zneN hx hn_b)).trans (k3 x u e hx (fun z => z))
      have hb4 : zTim μ4 b t := zTm_of (d := day) (s := sl + k) (hg4 ▸ updM_eq _ _ _) (by omega) ht
      have h4 := zF.pr h2 k4
      have hp4 := h4.1
      have m14 : zMap1 G μ4 o A ks0 val0 := zHM.fr m1 k4
      have m24 : zMap2 G μ4 o A ks' val' := zHM.fr m2 k4
      obtain ⟨f4, c4⟩ := zHM.cell m24
      obtain ⟨r0, hr08, hmk⟩ := zHM.rank m24
      have hl := hev.2.2.2
      obtain ⟨r1, g1, g2, hput⟩ := C_HM_put (w := pcn P 11) hmk (by omega) hnot (by omega) hb4 (fun e => by cases e) (by omega)
      first | refine aw_aload_n (i := 0) (q := 29) dX1_event_28 rfl rfl rfl ?_ | refine aw_aloadN_n (i := 0) (q := 29) dX1_event_28 rfl rfl rfl ?_ | refine aw_aloadQ_n (i := 0) (q := 29) dX1_event_28 rfl rfl rfl ?_
      refine aw_getfield (q := 32) dX1_event_29 gf_X1_101_1 (by assumption) rfl rfl ?_
      rw [eE]
      refine aw_z ?_
      refine aw_callS (q := 35) dX1_event_32 (C_valueOf (k := pcn P 11) (by omega)) cs_X1_224 rfl rfl (by decide) (by decide) (by first | exact Nat.le_of_ble_eq_true rfl | simp [zcat_rf, Value.category]) rfl (zpk ?_)
      refine AW.bud (bc' := X1 + (12 + 140 * (r1 - r0))) (bs' := X2 + (150 + 800 * (r1 - r0))) ?_ (by omega) (by omega)
      refine aw_callF (q := 40) dX1_event_35 (hput) cf_X1_230_19 (by assumption) rfl rfl (by decide) (by decide) (by first | exact Nat.le_of_ble_eq_true rfl | simp [zcat_rf, Value.category]) rfl (fun v35 μ5 hp => ?_)
      obtain ⟨rfl, m5, k5⟩ := hp
      refine aw_pop (q := 41) dX1_event_40 (by first | rfl | exact zcat_rf _) rfl ?_
      refine aw_iinc (q := 44) dX1_event_41 rfl (by first | exact nI_1 _ | rfl) (by decide) rfl ?_
      refine aw_goto (tgt := 6) dX1_event_44 (by decide) ?_
      exact aw_locals (by exact ⟨rfl, rfl, rfl, rfl, rfl, rfl, trivial⟩) (ih (k + 1) μ5 _ _ (by omega) (h4.mp k5 (by omega) (by omega)) (zHM.mo m14 k5 (by omega) (by omega)) m5.hm hev1 ((hkp.tr k4.f0).tr k5.mt) _ _ (by omega) (by omega))
  refine meets_of (by decide +kernel) (Nat.le_of_ble_eq_true rfl) ?_
  refine aw_iconst (v := 0) (q := 1) dX1_event_0 rfl rfl ?_
  refine aw_istore (q := 3) dX1_event_1 (by decide) rfl ?_
  refine aw_iload_n (i := 2) (q := 4) dX1_event_3 rfl rfl rfl ?_
  refine aw_istore (q := 6) dX1_event_4 (by decide) rfl ?_
  exact aw_locals (by exact ⟨rfl, rfl, rfl, rfl, rfl, rfl, trivial⟩) (loop many 0 μ _ _ (by omega) h m10 m20 (zEvI.z hEv0) zKp.rf _ _ (Nat.le_refl _) (Nat.le_refl _))
end ZPU1

