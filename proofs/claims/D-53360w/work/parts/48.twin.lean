/-! THE TWIN, part 8: tellEvent, barOfEvent -/
set_option maxRecDepth 100000
theorem tPlannedAtF_lt {P : zP} {day slot : Int32} : ∀ n, tPlannedAtF P day slot n = -6 ∨ ∃ s, s < n ∧ tPlannedAtF P day slot n = nI s ∧ P 3 s 3 = 0 ∧ P 3 s 1 = day ∧ P 3 s 2 = slot
  | 0 => Or.inl rfl
  | n + 1 => by
    unfold tPlannedAtF
    by_cases h : P 3 n 3 = 0 ∧ P 3 n 1 = day ∧ P 3 n 2 = slot
    · rw [if_pos h]; exact Or.inr ⟨n, by omega, rfl, h⟩
    · rw [if_neg h]
      rcases tPlannedAtF_lt (P := P) (day := day) (slot := slot) n with q | ⟨s, h1, h2⟩
      · exact Or.inl q
      · exact Or.inr ⟨s, by omega, h2⟩
theorem tPlannedAt_lt {P : zP} {day slot : Int32} (h : ¬ tPlannedAt P day slot < 0) : ∃ s, s < pcn P 9 ∧ tPlannedAt P day slot = nI s ∧ P 3 s 3 = 0 ∧ P 3 s 1 = day ∧ P 3 s 2 = slot := by
  rcases tPlannedAtF_lt (P := P) (day := day) (slot := slot) (pcn P 9) with q | q
  · exact absurd (show tPlannedAt P day slot < 0 by rw [tPlannedAt, q]; decide) h
  · exact q
theorem tDisplace_o {P : zP} {D : Nat → Int32} {s s' i c : Nat} (h : s' ≠ 3 ∧ s' ≠ 4 ∧ s' ≠ 6) : (tDisplace P D s).1 s' i c = P s' i c := by
  unfold tDisplace
  split
  · show updP _ _ _ _ _ _ _ _ = _
    rw [updP_ne (by omega), updP_ne (by omega), updP_ne (by omega)]
    exact tDispN_same _ _ _ _ (by omega)
  · show updP _ _ _ _ _ _ _ _ = _
    rw [updP_ne (by omega)]
    exact tDispN_same _ _ _ _ (by omega)
theorem tDisplace_cn {P : zP} {D : Nat → Int32} {s c : Nat} : pcn (tDisplace P D s).1 c = pcn P c := by
  unfold pcn; rw [tDisplace_o (by omega)]
theorem tDisplace_bk {P : zP} {D : Nat → Int32} {s b c : Nat} (h : c < 4 ∨ c = 5) : (tDisplace P D s).1 4 b c = P 4 b c := by
  unfold tDisplace
  split
  · dsimp only
    rw [updP_ne (by omega), updP_ne (by omega), updP_ne (by omega)]
    exact tDispN_same _ _ _ _ (by omega)
  · dsimp only
    rw [updP_ne (by omega)]
    exact tDispN_same _ _ _ _ (by omega)
theorem tDisplace_bkOk {P : zP} {D : Nat → Int32} {s : Nat} (h : tBkOk P) : tBkOk (tDisplace P D s).1 := by
  intro b hb
  rw [tDisplace_cn] at hb
  unfold tSh
  rw [tDisplace_bk (by omega), tDisplace_cn]
  exact h b hb
theorem tDisplace_ok {P : zP} {D : Nat → Int32} {s : Nat} (h : tOk P) : tOk (tDisplace P D s).1 := h.congr (fun c _ _ => tDisplace_o (by omega))
/-- a show's day, slot and number of moves behind displace -/
theorem tDisplace_sh {P : zP} {D : Nat → Int32} {s i c : Nat} : (tDisplace P D s).1 3 i c = (if tGoes P s = true then (if i = s ∧ c = 1 then nI (tDispTo P s / 6) else if i = s ∧ c = 2 then nI (tDispTo P s % 6) else if i = s ∧ c = 6 then P 3 s 6 + 1 else P 3 i c) else (if i = s ∧ c = 3 then 4 else P 3 i c)) := by
  unfold tDisplace
  by_cases hg : tGoes P s = true
  · rw [if_pos hg, if_pos hg]
    show updP _ _ _ _ _ _ _ _ = _
    by_cases h6 : i = s ∧ c = 6
    · obtain ⟨rfl, rfl⟩ := h6
      rw [updP_eq, if_neg (by omega), if_neg (by omega), if_pos ⟨rfl, rfl⟩]
    · rw [updP_ne (by omega)]
      by_cases h2 : i = s ∧ c = 2
      · obtain ⟨rfl, rfl⟩ := h2
        rw [updP_eq, if_neg (by omega), if_pos ⟨rfl, rfl⟩]
      · rw [updP_ne (by omega)]
        by_cases h1 : i = s ∧ c = 1
        · obtain ⟨rfl, rfl⟩ := h1
          rw [updP_eq, if_pos ⟨rfl, rfl⟩]
        · rw [updP_ne (by omega), if_neg h1, if_neg h2, if_neg h6]
          exact tDispN_same _ _ _ _ (by omega)
  · rw [if_neg hg, if_neg hg]
    show updP _ _ _ _ _ _ _ _ = _
    by_cases h3 : i = s ∧ c = 3
    · obtain ⟨rfl, rfl⟩ := h3
      rw [updP_eq, if_pos ⟨rfl, rfl⟩]
    · rw [updP_ne (by omega), if_neg h3]
      exact tDispN_same _ _ _ _ (by omega)
theorem tDispTo_lt {P : zP} {s d mv : Nat} (hI : tTimes P) (hs : s < pcn P 9) (hd : P 3 s 1 = nI d) (hd2 : d ≤ 1060) (hm : P 0 0 0 = nI mv) (hm2 : mv ≤ 14) (hg : tGoes P s = true) : tDispTo P s / 6 ≤ d + mv := by
  obtain ⟨-, ⟨sl, hsl, es⟩⟩ := hI.1 s hs
  have h : ¬ P 3 s 1 + P 0 0 0 < nI (tDispTo P s / 6) := by simpa [tGoes] using hg
  rw [hd, hm, nI_add] at h
  have hb : tDispTo P s < 2 ^ 30 := by
    have cd : (P 3 s 1).toNatClampNeg = d := by rw [hd]; exact nI_clamp (by omega)
    have cs : (P 3 s 2).toNatClampNeg = sl := by rw [es]; exact nI_clamp (by omega)
    have := (tFirst_spec hI (t := 6 * d + sl + 1) (by omega)).2.1
    rw [tDispTo, cd, cs]
    omega
  exact Nat.le_of_not_lt fun q => h (nI_lt q (by omega))
theorem tDisplace_times {P : zP} {D : Nat → Int32} {s d mv : Nat} (hI : tTimes P) (hs : s < pcn P 9) (hd : P 3 s 1 = nI d) (hd2 : d ≤ 1060) (hm : P 0 0 0 = nI mv) (hm2 : mv ≤ 14) : tTimes (tDisplace P D s).1 := by
  refine ⟨fun i hi => ?_, fun e he => ?_⟩
  · rw [tDisplace_cn] at hi
    rw [tDisplace_sh, tDisplace_sh]
    by_cases hg : tGoes P s = true
    · rw [if_pos hg, if_pos hg]
      have hlt := tDispTo_lt hI hs hd hd2 hm hm2 hg
      by_cases e : i = s
      · subst e
        rw [if_pos ⟨rfl, rfl⟩, if_neg (by omega), if_pos ⟨rfl, rfl⟩]
        exact ⟨⟨_, by omega, rfl⟩, ⟨_, Nat.mod_lt _ (by decide), rfl⟩⟩
      · rw [if_neg (by omega), if_neg (by omega), if_neg (by omega), if_neg (by omega), if_neg (by omega), if_neg (by omega)]
        exact hI.1 i hi
    · rw [if_neg hg, if_neg hg, if_neg (by omega), if_neg (by omega)]
      exact hI.1 i hi
  · rw [tDisplace_cn] at he
    rw [tDisplace_o (by omega)]
    exact hI.2 e he
/-- the times of an event, one after another -/
def tTellN (P : zP) (D : Nat → Int32) (day : Int32) (slot : Nat) : Nat → zP × (Nat → Int32)
  | 0 => (P, D)
  | n + 1 => if tPlannedAt (tTellN P D day slot n).1 day (nI (slot + n)) < 0 then tTellN P D day slot n else tDisplace (tTellN P D day slot n).1 (tTellN P D day slot n).2 (tPlannedAt (tTellN P D day slot n).1 day (nI (slot + n))).toNatClampNeg
def tEvAdd (P : zP) (day slot many : Int32) : zP := updP (updP (updP (updP P 5 (pcn P 11) 0 day) 5 (pcn P 11) 1 slot) 5 (pcn P 11) 2 many) 0 0 11 (nI (pcn P 11 + 1))
def tD0 (D : Nat → Int32) (n : Nat) : Nat → Int32 := fun j => if j < n then 0 else D j
/-- what tellEvent leaves -/
def tTell (P : zP) (D : Nat → Int32) (day : Int32) (slot many : Nat) : zP × (Nat → Int32) := tTellN (tEvAdd P day (nI slot) (nI many)) (tD0 D 4) day slot many
/-- the invariant along an event's times -/
def tTellI (P Q : zP) : Prop := tOk Q ∧ tBkOk Q ∧ tTimes Q ∧ Q 0 0 0 = P 0 0 0 ∧ ∀ c, pcn Q c = pcn P c
theorem tTellN_inv {P : zP} {D : Nat → Int32} {day : Int32} {d slot mv : Nat} (hP : tTellI P P) (hd : day = nI d) (hd2 : d ≤ 1060) (hm : P 0 0 0 = nI mv) (hm2 : mv ≤ 14) : ∀ n, tTellI P (tTellN P D day slot n).1
  | 0 => hP
  | n + 1 => by
    have ih := tTellN_inv (D := D) (slot := slot) hP hd hd2 hm hm2 n
    unfold tTellN
    split
    · exact ih
    · rename_i h
      obtain ⟨s, h1, h2, h3, h4, h5⟩ := tPlannedAt_lt h
      rw [h2]
      obtain ⟨i1, i2, i3, i4, i5⟩ := ih
      have hs9 := i1.s.2
      have hc : (nI s).toNatClampNeg = s := nI_clamp (by omega)
      rw [hc]
      exact ⟨tDisplace_ok i1, tDisplace_bkOk i2, tDisplace_times i3 h1 (h4.trans hd) hd2 (i4.trans hm) hm2, (tDisplace_o (by omega)).trans i4, fun c => tDisplace_cn.trans (i5 c)⟩
theorem pcn_cnt {P : zP} {c n : Nat} (hn : n < 2 ^ 31) : pcn (updP P 0 0 c (nI n)) c = n := by
  unfold pcn; rw [updP_eq]; exact nI_clamp hn
theorem tEvAdd_cn {P : zP} {day slot many : Int32} {c : Nat} (hP : tOk P) : pcn (tEvAdd P day slot many) c = if c = 11 then pcn P 11 + 1 else pcn P c := by
  have := hP.e.2
  unfold tEvAdd
  by_cases h : c = 11
  · subst h; rw [pcn_cnt (by omega), if_pos rfl]
  · rw [if_neg h, pcn_upd (by omega), pcn_upd (by omega), pcn_upd (by omega), pcn_upd (by omega)]
theorem tEvAdd_o {P : zP} {day slot many : Int32} {s i c : Nat} (h : s ≠ 5 ∧ (s ≠ 0 ∨ c ≠ 11)) : tEvAdd P day slot many s i c = P s i c := by
  unfold tEvAdd
  rw [updP_ne (by omega), updP_ne (by omega), updP_ne (by omega), updP_ne (by omega)]
theorem tEvAdd_e {P : zP} {day slot many : Int32} {e c : Nat} (h : e < pcn P 11) : tEvAdd P day slot many 5 e c = P 5 e c := by
  unfold tEvAdd
  rw [updP_ne (by omega), updP_ne (by omega), updP_ne (by omega), updP_ne (by omega)]
theorem tEvAdd_inv {P : zP} {day slot many : Int32} {d : Nat} (h1 : tOk P) (h2 : tBkOk P) (h3 : tTimes P) (hd : day = nI d) (hd2 : d ≤ 1060) (he : pcn P 11 < 20) : tTellI (tEvAdd P day slot many) (tEvAdd P day slot many) := by
  refine ⟨?_, fun b hb => ?_, ⟨fun s hs => ?_, fun e hE => ?_⟩, rfl, fun c => rfl⟩
  · exact (((h1.upd (by omega)).upd (by omega)).upd (by omega)).cnt (by omega) (by omega) (show _ ≤ 20 by omega)
  · rw [tEvAdd_cn h1, if_neg (by decide)] at hb
    unfold tSh
    rw [tEvAdd_o (by omega), tEvAdd_cn h1, if_neg (by decide)]
    exact h2 b hb
  · rw [tEvAdd_cn h1, if_neg (by decide)] at hs
    rw [tEvAdd_o (by omega), tEvAdd_o (by omega)]
    exact h3.1 s hs
  · rw [tEvAdd_cn h1, if_pos rfl] at hE
    by_cases e0 : e = pcn P 11
    · subst e0
      unfold tEvAdd
      rw [updP_ne (by omega), updP_ne (by omega), updP_ne (by omega), updP_eq]
      exact ⟨d, by omega, hd⟩
    · rw [tEvAdd_e (by omega)]
      exact h3.2 e (by omega)
section ZTW7
variable {G : zG} {μ : zM} {m : Nat} {lam : Nat → Nat} {K : Nat → Nat → Int32} {P : zP}
theorem C2_tellEvent {day : Int32} {d slot many mv : Nat} {x y : Int32} (hT : zTP G μ m lam K P) (hx : x = nI slot) (hy : y = nI many) (hd : day = nI d) (hd2 : d ≤ 1060) (hsm : slot + many ≤ 6) (hB : tBkOk P) (hI : tTimes P) (hE : pcn P 11 < 20) (hmv : P 0 0 0 = nI mv) (hmv2 : mv ≤ 14) : Meets G 6 MX2_tellEvent [.ref m, .int day, .int x, .int y] μ (tPost8 G μ m lam K (tTell P (K 8) day slot many).1 (tTell P (K 8) day slot many).2 none) 0 0 := by
  subst hx hy
  have hI0 := tEvAdd_inv (slot := nI slot) (many := nI many) hT.2.2 hB hI hd hd2 hE
  have hm0 : tEvAdd P day (nI slot) (nI many) 0 0 0 = nI mv := (tEvAdd_o (by omega)).trans hmv
  obtain ⟨hne, -⟩ := hT.2.2.e
  have hm := hT.m
  have h8 := hT.a8
  refine meets_of (by decide +kernel) (Nat.le_of_ble_eq_true rfl) ?_
  refine aw_iconst (v := 0) (q := 1) dX2_tellEvent_0 rfl rfl ?_
  refine aw_istore (q := 3) dX2_tellEvent_1 (by decide) rfl ?_
  -- the days' loop
  have loop2 : ∀ n e, e + n = many → ∀ (μ1 : zM) (f : Nat → Int32), zTP G μ1 m lam (setK (setK K 8 (tTellN (tEvAdd P day (nI slot) (nI many)) (tD0 (K 8) 4) day slot e).2) 1 f) (tTellN (tEvAdd P day (nI slot) (nI many)) (tD0 (K 8) 4) day slot e).1 → zKp tTw μ μ1 → AW G 6 MX2_tellEvent (tPost8 G μ m lam K (tTell P (K 8) day slot many).1 (tTell P (K 8) day slot many).2 none) 0 0 80 [(0, .ref m), (1, .int day), (2, .int (nI slot)), (3, .int (nI many)), (5, .int (nI (slot + e)))] [] μ1 := by
    intro n
    induction n with
    | zero =>
      intro e he μ1 f hT hk
      refine aw_iload (q := 82) dX2_tellEvent_80 rfl rfl ?_
      refine aw_iload_n (i := 2) (q := 83) dX2_tellEvent_82 rfl rfl rfl ?_
      refine aw_iload_n (i := 3) (q := 84) dX2_tellEvent_83 rfl rfl rfl ?_
      refine aw_iadd (q := 85) dX2_tellEvent_84 rfl ?_
      rw [nI_add]
      refine aw_icmp_ge (tgt := 114) (q := 88) dX2_tellEvent_85 (by decide) rfl (fun _ => ?_) (fun hc => absurd (nI_le (by omega) (by omega)) hc)
      exact aw_return dX2_tellEvent_114 rfl (⟨rfl, ⟨f, by rw [tTell, show many = e by omega]; rw [show many = e by omega] at hT; exact hT⟩, hk⟩)
    | succ n ih =>
      intro e he μ1 f hT hk
      have hm := hT.m
      obtain ⟨i1, i2, i3, i4, i5⟩ := tTellN_inv (D := tD0 (K 8) 4) (slot := slot) hI0 hd hd2 hm0 hmv2 e
      refine aw_iload (q := 82) dX2_tellEvent_80 rfl rfl ?_
      refine aw_iload_n (i := 2) (q := 83) dX2_tellEvent_82 rfl rfl rfl ?_
      refine aw_iload_n (i := 3) (q := 84) dX2_tellEvent_83 rfl rfl rfl ?_
      refine aw_iadd (q := 85) dX2_tellEvent_84 rfl ?_
      rw [nI_add]
      refine aw_icmp_ge (tgt := 114) (q := 88) dX2_tellEvent_85 (by decide) rfl (fun hc => absurd hc (nI_ge (by omega) (by omega))) (fun _ => ?_)
      first | refine aw_aload_n (i := 0) (q := 89) dX2_tellEvent_88 rfl rfl rfl ?_ | refine aw_aloadN_n (i := 0) (q := 89) dX2_tellEvent_88 rfl rfl rfl ?_ | refine aw_aloadQ_n (i := 0) (q := 89) dX2_tellEvent_88 rfl rfl rfl ?_
      refine aw_iload_n (i := 1) (q := 90) dX2_tellEvent_89 rfl rfl rfl ?_
      refine aw_iload (q := 92) dX2_tellEvent_90 rfl rfl ?_
      refine aw_callV (q := 95) dX2_tellEvent_92 (C2_plannedAt hT) cv_X2_81_2 (by assumption) rfl rfl (by decide) (by decide) (by first | exact Nat.le_of_ble_eq_true rfl | simp [zcat_rf, Value.category]) rfl (zpk ?_)
      refine aw_istore (q := 97) dX2_tellEvent_95 (by decide) rfl ?_
      refine aw_iload (q := 99) dX2_tellEvent_97 rfl rfl ?_
      refine aw_if_lt (tgt := 108) (q := 102) dX2_tellEvent_99 (by decide) rfl (fun ha => ?_) (fun ha => ?_)
      · refine aw_iinc (q := 111) dX2_tellEvent_108 rfl (by first | exact nI_1 _ | rfl) (by decide) rfl ?_
        refine aw_goto (tgt := 80) dX2_tellEvent_111 (by decide) ?_
        have e3 : tTellN (tEvAdd P day (nI slot) (nI many)) (tD0 (K 8) 4) day slot (e + 1) = tTellN (tEvAdd P day (nI slot) (nI many)) (tD0 (K 8) 4) day slot e := by
          show (if _ then _ else _) = _
          rw [if_pos ha]
        exact aw_locals (by exact ⟨rfl, rfl, rfl, rfl, rfl, trivial⟩) (ih (e + 1) (by omega) μ1 f (by rw [e3]; exact hT) hk)
      · skip
        have ha' := ha
        obtain ⟨s, h1, h2, h3, h4, h5⟩ := tPlannedAt_lt ha'
        rw [h2]
        first | refine aw_aload_n (i := 0) (q := 103) dX2_tellEvent_102 rfl rfl rfl ?_ | refine aw_aloadN_n (i := 0) (q := 103) dX2_tellEvent_102 rfl rfl rfl ?_ | refine aw_aloadQ_n (i := 0) (q := 103) dX2_tellEvent_102 rfl rfl rfl ?_
        refine aw_iload (q := 105) dX2_tellEvent_103 rfl rfl ?_
        refine aw_callV (q := 108) dX2_tellEvent_105 (C2_displace hT rfl h1 i2 i3) cv_X2_130_2 (by assumption) rfl rfl (by decide) (by decide) (by first | exact Nat.le_of_ble_eq_true rfl | simp [zcat_rf, Value.category]) rfl (fun v105 μ2 hp => ?_)
        obtain ⟨rfl, ⟨n2, hT2⟩, hk2⟩ := hp
        rw [setK_ne (by decide), setK_eq, setK_comm _ _ _ (by decide : (1 : Nat) ≠ 8), setK_twice, setK_twice] at hT2
        refine aw_iinc (q := 111) dX2_tellEvent_108 rfl (by first | exact nI_1 _ | rfl) (by decide) rfl ?_
        refine aw_goto (tgt := 80) dX2_tellEvent_111 (by decide) ?_
        have hs9 := i1.s.2
        have e3 : tTellN (tEvAdd P day (nI slot) (nI many)) (tD0 (K 8) 4) day slot (e + 1) = tDisplace (tTellN (tEvAdd P day (nI slot) (nI many)) (tD0 (K 8) 4) day slot e).1 (tTellN (tEvAdd P day (nI slot) (nI many)) (tD0 (K 8) 4) day slot e).2 s := by
          show (if _ then _ else _) = _
          rw [if_neg ha', h2, nI_clamp (by omega)]
        exact aw_locals (by exact ⟨rfl, rfl, rfl, rfl, rfl, trivial⟩) (ih (e + 1) (by omega) μ2 n2 (by rw [e3]; exact hT2) (hk.tr hk2))
  -- did is laid to 0
  have loop1 : ∀ n e, e + n = 4 → ∀ (μ1 : zM), zTP G μ1 m lam (setK K 8 (tD0 (K 8) e)) P → zKp tTw μ μ1 → AW G 6 MX2_tellEvent (tPost8 G μ m lam K (tTell P (K 8) day slot many).1 (tTell P (K 8) day slot many).2 none) 0 0 3 [(0, .ref m), (1, .int day), (2, .int (nI slot)), (3, .int (nI many)), (4, .int (nI e))] [] μ1 := by
    intro n
    induction n with
    | zero =>
      intro e he μ1 hT hk
      have hm := hT.m
      have h1 := hT.a1
      have e4 : e = 4 := by omega
      subst e4
      refine aw_iload (q := 5) dX2_tellEvent_3 rfl rfl ?_
      refine aw_iconst (v := 4) (q := 6) dX2_tellEvent_5 rfl rfl ?_
      refine aw_icmp_ge (tgt := 23) (q := 9) dX2_tellEvent_6 (by decide) rfl (fun _ => ?_) (fun hc => absurd (nI_le (a := 4) (by omega) (by omega)) hc)
      refine aw_sipush (v := 1800) (q := 26) dX2_tellEvent_23 rfl rfl ?_
      refine aw_iconst (v := 3) (q := 27) dX2_tellEvent_26 rfl rfl ?_
      first | refine aw_aload_n (i := 0) (q := 28) dX2_tellEvent_27 rfl rfl rfl ?_ | refine aw_aloadN_n (i := 0) (q := 28) dX2_tellEvent_27 rfl rfl rfl ?_ | refine aw_aloadQ_n (i := 0) (q := 28) dX2_tellEvent_27 rfl rfl rfl ?_
      refine aw_getfield (q := 31) dX2_tellEvent_28 gf_X2_7_2 (by assumption) rfl rfl ?_
      refine aw_bipush (v := 11) (q := 33) dX2_tellEvent_31 rfl rfl ?_
      refine aw_iald (q := 34) (v := nI (pcn P 11)) (11) dX2_tellEvent_33 (by assumption) (by first | assumption | (simp only [← nI_add, ← pk_mul]; rfl) | rfl) (by omega) (by omega) ((hT.2.1.g (by omega)).trans hne) rfl ?_
      refine aw_imul (q := 35) dX2_tellEvent_34 rfl ?_
      refine aw_iadd (q := 36) dX2_tellEvent_35 rfl ?_
      refine aw_istore (q := 38) dX2_tellEvent_36 (by decide) rfl ?_
      first | refine aw_aload_n (i := 0) (q := 39) dX2_tellEvent_38 rfl rfl rfl ?_ | refine aw_aloadN_n (i := 0) (q := 39) dX2_tellEvent_38 rfl rfl rfl ?_ | refine aw_aloadQ_n (i := 0) (q := 39) dX2_tellEvent_38 rfl rfl rfl ?_
      refine aw_getfield (q := 42) dX2_tellEvent_39 gf_X2_7_2 (by assumption) rfl rfl ?_
      refine aw_iload (q := 44) dX2_tellEvent_42 rfl rfl ?_
      refine aw_iload_n (i := 1) (q := 45) dX2_tellEvent_44 rfl rfl rfl ?_
      refine aw_iast (q := 46) (1800 + 3 * pcn P 11) dX2_tellEvent_45 h1 (by first | assumption | simp) (by first | assumption | (simp only [← nI_add, ← pk_mul]; rfl) | rfl) (by omega) (by omega) rfl (fun μ2 hg_μ2 => ?_)
      have h1 : μ2 _ = some _ := hg_μ2 ▸ updM_eq _ _ _
      obtain ⟨hT2, hk2⟩ := hT.st (s := 5) (i := pcn P 11) (c := 0) (by omega) (show pcn P 11 < 20 by omega) (show 0 < 3 by omega) rfl hg_μ2 (hT.2.2.upd (by omega))
      rw [setK_comm _ _ _ (by decide : (8 : Nat) ≠ 1)] at hT2
      have hm := hT2.m
      have h1 := hT2.a1
      first | refine aw_aload_n (i := 0) (q := 47) dX2_tellEvent_46 rfl rfl rfl ?_ | refine aw_aloadN_n (i := 0) (q := 47) dX2_tellEvent_46 rfl rfl rfl ?_ | refine aw_aloadQ_n (i := 0) (q := 47) dX2_tellEvent_46 rfl rfl rfl ?_
      refine aw_getfield (q := 50) dX2_tellEvent_47 gf_X2_7_2 (by assumption) rfl rfl ?_
      refine aw_iload (q := 52) dX2_tellEvent_50 rfl rfl ?_
      refine aw_iconst (v := 1) (q := 53) dX2_tellEvent_52 rfl rfl ?_
      refine aw_iadd (q := 54) dX2_tellEvent_53 rfl ?_
      refine aw_iload_n (i := 2) (q := 55) dX2_tellEvent_54 rfl rfl rfl ?_
      refine aw_iast (q := 56) (1800 + 3 * pcn P 11 + 1) dX2_tellEvent_55 h1 (by first | assumption | simp) (by first | assumption | (simp only [← nI_add, ← pk_mul]; rfl) | rfl) (by omega) (by omega) rfl (fun μ3 hg_μ3 => ?_)
      have h1 : μ3 _ = some _ := hg_μ3 ▸ updM_eq _ _ _
      obtain ⟨hT3, hk3⟩ := hT2.st (s := 5) (i := pcn P 11) (c := 1) (by omega) (show pcn P 11 < 20 by omega) (show 1 < 3 by omega) rfl hg_μ3 (hT2.2.2.upd (by omega))
      have hm := hT3.m
      have h1 := hT3.a1
      first | refine aw_aload_n (i := 0) (q := 57) dX2_tellEvent_56 rfl rfl rfl ?_ | refine aw_aloadN_n (i := 0) (q := 57) dX2_tellEvent_56 rfl rfl rfl ?_ | refine aw_aloadQ_n (i := 0) (q := 57) dX2_tellEvent_56 rfl rfl rfl ?_
      refine aw_getfield (q := 60) dX2_tellEvent_57 gf_X2_7_2 (by assumption) rfl rfl ?_
      refine aw_iload (q := 62) dX2_tellEvent_60 rfl rfl ?_
      refine aw_iconst (v := 2) (q := 63) dX2_tellEvent_62 rfl rfl ?_
      refine aw_iadd (q := 64) dX2_tellEvent_63 rfl ?_
      refine aw_iload_n (i := 3) (q := 65) dX2_tellEvent_64 rfl rfl rfl ?_
      refine aw_iast (q := 66) (1800 + 3 * pcn P 11 + 2) dX2_tellEvent_65 h1 (by first | assumption | simp) (by first | assumption | (simp only [← nI_add, ← pk_mul]; rfl) | rfl) (by omega) (by omega) rfl (fun μ4 hg_μ4 => ?_)
      have h1 : μ4 _ = some _ := hg_μ4 ▸ updM_eq _ _ _
      obtain ⟨hT4, hk4⟩ := hT3.st (s := 5) (i := pcn P 11) (c := 2) (by omega) (show pcn P 11 < 20 by omega) (show 2 < 3 by omega) rfl hg_μ4 (hT3.2.2.upd (by omega))
      have hm := hT4.m
      have h1 := hT4.a1
      first | refine aw_aload_n (i := 0) (q := 67) dX2_tellEvent_66 rfl rfl rfl ?_ | refine aw_aloadN_n (i := 0) (q := 67) dX2_tellEvent_66 rfl rfl rfl ?_ | refine aw_aloadQ_n (i := 0) (q := 67) dX2_tellEvent_66 rfl rfl rfl ?_
      refine aw_getfield (q := 70) dX2_tellEvent_67 gf_X2_7_2 (by assumption) rfl rfl ?_
      refine aw_bipush (v := 11) (q := 72) dX2_tellEvent_70 rfl rfl ?_
      refine aw_dup2 (q := 73) dX2_tellEvent_72 (by first | rfl | exact zcat_rf _) (by first | rfl | exact zcat_rf _) rfl ?_
      refine aw_iald (q := 74) (v := nI (pcn P 11)) (11) dX2_tellEvent_73 (by assumption) (by first | assumption | (simp only [← nI_add, ← pk_mul]; rfl) | rfl) (by omega) (by omega) ((hT4.2.1.g (by omega)).trans ((updP_ne (by omega)).trans ((updP_ne (by omega)).trans ((updP_ne (by omega)).trans hne)))) rfl ?_
      refine aw_iconst (v := 1) (q := 75) dX2_tellEvent_74 rfl rfl ?_
      refine aw_iadd (q := 76) dX2_tellEvent_75 rfl ?_
      rw [show nI (pcn P 11) + 1 = nI (pcn P 11 + 1) from nI_1 _]
      refine aw_iast (q := 77) (11) dX2_tellEvent_76 h1 (by first | assumption | simp) (by first | assumption | (simp only [← nI_add, ← pk_mul]; rfl) | rfl) (by omega) (by omega) rfl (fun μ5 hg_μ5 => ?_)
      have h1 : μ5 _ = some _ := hg_μ5 ▸ updM_eq _ _ _
      obtain ⟨hT5, hk5⟩ := hT4.st (s := 0) (i := 0) (c := 11) (by omega) (show 0 < 1 by omega) (show 11 < 20 by omega) rfl hg_μ5 (hT4.2.2.cnt (by omega) (by omega) (show _ ≤ 20 by omega))
      refine aw_iload_n (i := 2) (q := 78) dX2_tellEvent_77 rfl rfl rfl ?_
      refine aw_istore (q := 80) dX2_tellEvent_78 (by decide) rfl ?_
      have hT5' := hT5
      rw [← setK_self (setK (setK (setK (setK (setK K 1 _) 8 _) 1 _) 1 _) 1 _) 1] at hT5'
      exact aw_locals (by exact ⟨rfl, rfl, rfl, rfl, rfl, trivial⟩) (loop2 many 0 (by omega) μ5 _ (by show zTP G μ5 m lam (setK (setK K 8 (tD0 (K 8) 4)) 1 _) (tEvAdd P day (nI slot) (nI many)); rw [setK_comm _ _ _ (by decide : (8 : Nat) ≠ 1)]; rw [setK_twice, setK_twice, setK_twice, setK_comm _ _ _ (by decide : (8 : Nat) ≠ 1), setK_twice, ← setK_comm _ _ _ (by decide : (8 : Nat) ≠ 1)] at hT5; exact hT5) ((((hk.tr hk2).tr hk3).tr hk4).tr hk5))
    | succ n ih =>
      intro e he μ1 hT hk
      have hm := hT.m
      have h8 := hT.a8
      refine aw_iload (q := 5) dX2_tellEvent_3 rfl rfl ?_
      refine aw_iconst (v := 4) (q := 6) dX2_tellEvent_5 rfl rfl ?_
      refine aw_icmp_ge (tgt := 23) (q := 9) dX2_tellEvent_6 (by decide) rfl (fun hc => absurd hc (nI_ge (b := 4) (a := e) (by omega) (by omega))) (fun _ => ?_)
      first | refine aw_aload_n (i := 0) (q := 10) dX2_tellEvent_9 rfl rfl rfl ?_ | refine aw_aloadN_n (i := 0) (q := 10) dX2_tellEvent_9 rfl rfl rfl ?_ | refine aw_aloadQ_n (i := 0) (q := 10) dX2_tellEvent_9 rfl rfl rfl ?_
      refine aw_getfield (q := 13) dX2_tellEvent_10 gf_X2_32_2 (by assumption) rfl rfl ?_
      refine aw_iload (q := 15) dX2_tellEvent_13 rfl rfl ?_
      refine aw_iconst (v := 0) (q := 16) dX2_tellEvent_15 rfl rfl ?_
      refine aw_iast (q := 17) (e) dX2_tellEvent_16 h8 (by first | assumption | simp) (by first | assumption | (simp only [← nI_add, ← pk_mul]; rfl) | rfl) (by omega) (by omega) rfl (fun μ2 hg_μ2 => ?_)
      have h8 : μ2 _ = some _ := hg_μ2 ▸ updM_eq _ _ _
      obtain ⟨hW2, hk2⟩ := hT.1.st8 hg_μ2
      have hT2 := hT.other hW2 (setK_ne (by decide))
      rw [setK_twice, setK_eq, show upd (tD0 (K 8) e) e 0 = tD0 (K 8) (e + 1) by funext j; unfold tD0 upd; by_cases h : j = e; (subst h; simp); (have q : (j < e + 1) = (j < e) := by apply propext; omega); simp only [h, if_false, q]] at hT2
      refine aw_iinc (q := 20) dX2_tellEvent_17 rfl (by first | exact nI_1 _ | rfl) (by decide) rfl ?_
      refine aw_goto (tgt := 3) dX2_tellEvent_20 (by decide) ?_
      exact aw_locals (by exact ⟨rfl, rfl, rfl, rfl, rfl, trivial⟩) (ih (e + 1) (by omega) μ2 hT2 (hk.tr hk2))
  exact aw_locals (by exact ⟨rfl, rfl, rfl, rfl, rfl, trivial⟩) (loop1 4 0 (by omega) μ (by rw [show tD0 (K 8) 0 = K 8 by funext j; simp [tD0], setK_self]; exact hT) zKp.rf)
end ZTW7
