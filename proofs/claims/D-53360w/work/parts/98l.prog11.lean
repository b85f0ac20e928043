/-! THE PROGRAMME: holds -/
set_option maxRecDepth 100000
theorem tSumR_at {f f' : Nat → Int32} {s : Nat} {x : Int32} : ∀ n, (∀ j, j < n → j ≠ s → f' j = f j) → (s < n → f' s = f s + x) → tSumR f' n = tSumR f n + (if s < n then x else 0)
  | 0, _, _ => by rw [if_neg (by omega), Int32.add_zero]; rfl
  | n + 1, h, hx => by
    have ih := tSumR_at (f := f) (f' := f') (s := s) (x := x) n (fun j hj => h j (by omega)) (fun q => hx (by omega))
    show tSumR f' n + f' n = tSumR f n + f n + _
    rw [ih]
    by_cases e : n = s
    · subst e
      rw [if_neg (by omega), if_pos (by omega), hx (by omega), Int32.add_zero, Int32.add_assoc]
    · rw [h n (by omega) e]
      by_cases q : s < n
      · rw [if_pos q, if_pos (by omega), Int32.add_assoc, Int32.add_comm x, ← Int32.add_assoc]
      · rw [if_neg q, if_neg (by omega), Int32.add_zero, Int32.add_zero]
theorem tShowsIn_set {P P' : zP} {s : Nat} {st : Int32} (hs : s < pcn P 9) (h9 : pcn P' 9 = pcn P 9) (ho : ∀ j, j ≠ s → P' 3 j 3 = P 3 j 3) (h0 : P 3 s 3 ≠ st) : tShowsIn P' st = tShowsIn P st + (if P' 3 s 3 = st then 1 else 0) := by
  unfold tShowsIn
  rw [h9, tSumR_at (f := fun s => if P 3 s 3 = st then 1 else 0) (s := s) (x := if P' 3 s 3 = st then 1 else 0) (pcn P 9) (fun j _ hj => by (try dsimp only); rw [ho j hj]) (fun _ => by (try dsimp only); rw [if_neg h0, Int32.zero_add]), if_pos hs]
theorem zupd_id {c : Nat → Int32} {k : Nat} {v : Int32} (e : v = c k) : upd c k v = c := by
  subst e
  funext j
  by_cases q : j = k
  · subst q; exact pk_us
  · exact pk_un q
theorem zupd_2 {c : Nat → Int32} {k : Nat} {v w : Int32} : upd (upd c k v) k w = upd c k w := by
  funext j
  by_cases q : j = k
  · subst q; rw [pk_us, pk_us]
  · rw [pk_un q, pk_un q, pk_un q]
/-- what a show wore: the order of the writes doesn't matter -/
theorem tWorn_ord {Q : zP} {s k l : Nat} {u v h st : Int32} (eu : u = Q 2 l 1 + tHours Q k l) (eh : h = tHours Q k l) (est : st = if tBreaks Q k l = true then 2 else 1) : updP (updP (updP (updP (updP (updP Q 3 s 4 (nI l)) 2 l 1 u) 2 l 2 v) 3 s 5 h) 3 s 3 st) 2 l 3 (Q 2 l 3 + 1) = updP (tWorn Q s k l) 2 l 2 v := by
  subst eu eh est
  unfold tWorn
  funext x y z
  simp only [updP]
  repeat' split
  all_goals first | rfl | (exfalso; omega)
theorem tWear_eq {Q : zP} {k l : Nat} : zMn (Q 1 k 0) (Q 2 l 0 - Q 2 l 1) = tHours Q k l := by
  unfold zMn tHours tBreaks
  by_cases q : Q 2 l 0 - Q 2 l 1 < Q 1 k 0
  · rw [if_pos q, if_pos (decide_eq_true q)]
  · rw [if_neg q, if_neg (by rw [decide_eq_false q]; decide)]
theorem tBkOk.upd2 {P : zP} (hB : tBkOk P) {s i j : Nat} {v : Int32} (h0 : s ≠ 0) (h4 : s = 4 → j ≠ 0) : tBkOk (updP P s i j v) := fun b hb => by
  rw [pcn_upd (by omega)] at hb
  have z := hB b hb
  have e : updP P s i j v 4 b 0 = P 4 b 0 := updP_ne (by omega)
  unfold tSh at z ⊢
  rw [e, pcn_upd (by omega)]
  exact z
section ZPM1
variable {G : zG} {μ : zM} {p o : Nat} {P : zP} {A : Nat → Nat → Nat} {c : Nat → Int32}
/-- what holds leaves -/
def zHdP (G : zG) (μ : zM) (p o : Nat) (P : zP) (A : Nat → Nat → Nat) (c : Nat → Int32) (s : Nat) : Option Value → zM → Prop := fun v μ' => v = none ∧ zPR G μ' p o (tHold P tZ s).1 A (upd c 0 (tShowsIn (tHold P tZ s).1 1)) ∧ zKp (zKo o) μ μ'
set_option maxHeartbeats 16000000 in
theorem C_holds {s : Nat} (h : zPR G μ p o P A c) (hO : tOk P) (hB : tBkOk P) (h1 : tOneF P) (hf : tLife P) (hKi : tKi P) (hKL : tKL P) (hle : ∀ k, k < pcn P 7 → 0 < P 1 k 1) (hs : s < pcn P 9) (h0 : P 3 s 3 = 0) (hc : c 0 = tShowsIn P 1) : Meets G 9 MX1_holds [.ref p, .int (nI s)] μ (zHdP G μ p o P A c s) (pcn P 10 + 2) (4 * pcn P 10 + 5) := by
  have hp := h.1
  obtain ⟨ki1, ki2⟩ := hKi s hs
  have s60 : pcn P 9 ≤ 60 := hO.s.2
  have k10 : pcn P 7 ≤ 10 := hO.k.2
  have l12 : pcn P 8 ≤ 12 := hO.l.2
  have hLs := h.lsh
  obtain ⟨_, chLs⟩ := hLs.cell
  have hLk := h.lki
  obtain ⟨_, chLk⟩ := hLk.cell
  have hki := h.ki ki2
  obtain ⟨t, fr, f2, hsh, htm, hfr, hf2⟩ := h.sh hs
  rw [ki1] at hsh
  have hsz : obT 3 s o ≠ zC := obT_nz
  have hpz : pgT 0 o ≠ zC := fun e => by have e1 : 20000 + 0 = 0 := congrArg Prod.fst e; omega
  obtain ⟨n, hn⟩ : ∃ n, pcn P 10 = n := ⟨_, rfl⟩
  obtain ⟨m, hm⟩ : ∃ m, 4 * pcn P 10 = m := ⟨_, rfl⟩
  refine meets_of (by decide +kernel) (Nat.le_of_ble_eq_true rfl) ?_
  refine AW.bud (bc' := (n + 1) + 1) (bs' := (m + 4) + 1) ?_ (by omega) (by omega)
  first | refine aw_aload_n (i := 0) (q := 1) dX1_holds_0 rfl rfl rfl ?_ | refine aw_aloadN_n (i := 0) (q := 1) dX1_holds_0 rfl rfl rfl ?_ | refine aw_aloadQ_n (i := 0) (q := 1) dX1_holds_0 rfl rfl rfl ?_
  refine aw_getfield (q := 4) dX1_holds_1 gf_X1_25_1 (by assumption) rfl rfl ?_
  refine aw_iload_n (i := 1) (q := 5) dX1_holds_4 rfl rfl rfl ?_
  refine aw_z ?_
  refine aw_callF (q := 10) dX1_holds_5 (C_AL_get hLs hs (by omega)) cf_X1_115_14 (by assumption) rfl rfl (by decide) (by decide) (by first | exact Nat.le_of_ble_eq_true rfl | simp [zcat_rf, Value.category]) rfl (zpk ?_)
  refine aw_cast (q := 13) dX1_holds_10 q535 hsh ca_5_X5 rfl ?_
  first | refine aw_astore_n (i := 2) (q := 14) dX1_holds_13 rfl (by decide) rfl ?_ | refine aw_astoreN_n (i := 2) (q := 14) dX1_holds_13 rfl (by decide) rfl ?_ | refine aw_astoreQ_n (i := 2) (q := 14) dX1_holds_13 rfl (by decide) rfl ?_
  first | refine aw_aload_n (i := 0) (q := 15) dX1_holds_14 rfl rfl rfl ?_ | refine aw_aloadN_n (i := 0) (q := 15) dX1_holds_14 rfl rfl rfl ?_ | refine aw_aloadQ_n (i := 0) (q := 15) dX1_holds_14 rfl rfl rfl ?_
  refine aw_getfield (q := 18) dX1_holds_15 gf_X1_18_1 (by assumption) rfl rfl ?_
  first | refine aw_aload_n (i := 2) (q := 19) dX1_holds_18 rfl rfl rfl ?_ | refine aw_aloadN_n (i := 2) (q := 19) dX1_holds_18 rfl rfl rfl ?_ | refine aw_aloadQ_n (i := 2) (q := 19) dX1_holds_18 rfl rfl rfl ?_
  refine aw_getfield (q := 22) dX1_holds_19 gf_X1_186_5 (by assumption) rfl rfl ?_
  refine aw_z ?_
  refine aw_callF (q := 27) dX1_holds_22 (C_AL_get hLk ki2 (by omega)) cf_X1_115_14 (by assumption) rfl rfl (by decide) (by decide) (by first | exact Nat.le_of_ble_eq_true rfl | simp [zcat_rf, Value.category]) rfl (zpk ?_)
  refine aw_cast (q := 30) dX1_holds_27 q415 hki ca_3_X3 rfl ?_
  first | refine aw_astore_n (i := 3) (q := 31) dX1_holds_30 rfl (by decide) rfl ?_ | refine aw_astoreN_n (i := 3) (q := 31) dX1_holds_30 rfl (by decide) rfl ?_ | refine aw_astoreQ_n (i := 3) (q := 31) dX1_holds_30 rfl (by decide) rfl ?_
  try simp (config := {decide := true}) only [zput, zdel_q, zdel_f, zdel_t, zdel_nil, zdel_r, zdel_i, zdel_n]
  first | refine aw_aload_n (i := 0) (q := 32) dX1_holds_31 rfl rfl rfl ?_ | refine aw_aloadN_n (i := 0) (q := 32) dX1_holds_31 rfl rfl rfl ?_ | refine aw_aloadQ_n (i := 0) (q := 32) dX1_holds_31 rfl rfl rfl ?_
  first | refine aw_aload_n (i := 3) (q := 33) dX1_holds_32 rfl rfl rfl ?_ | refine aw_aloadN_n (i := 3) (q := 33) dX1_holds_32 rfl rfl rfl ?_ | refine aw_aloadQ_n (i := 3) (q := 33) dX1_holds_32 rfl rfl rfl ?_
  refine aw_callV (q := 36) dX1_holds_33 (C_lampFor h hO h1 hf ki2 (hle _ ki2)) cv_X1_271_1 (by assumption) rfl rfl (by decide) (by decide) (by first | exact Nat.le_of_ble_eq_true rfl | simp [zcat_rf, Value.category]) rfl (fun v33 μ1 hp => ?_)
  obtain ⟨hq, hone, k1, hres⟩ := hp
  rcases hres with ⟨g1, rfl, g3⟩ | ⟨g1, a, l, hl, g4, rfl, g6⟩
  · rw [tLight_no g1] at hq hone
    have eH : tHold P tZ s = tClose (updP P 3 s 3 3) tZ s 4 := by unfold tHold; rw [if_neg (by rw [g1]; decide)]
    have eP : (tHold P tZ s).1 = tLosN (updP P 3 s 3 3) s 1 false (pcn (updP P 3 s 3 3) 10) := by rw [eH]; exact tCloseN_los _
    have e3 : ∀ j, (tHold P tZ s).1 3 j 3 = updP P 3 s 3 3 3 j 3 := fun j => by rw [eP]; exact tLosN_same _ 3 j 3 (by omega)
    have eS : tShowsIn (tHold P tZ s).1 1 = c 0 := by
      rw [tShowsIn_set (P := P) (s := s) hs (by rw [eP, (tLosN_same _).cn, pcn_upd (by omega)]) (fun j hj => by rw [e3, updP_ne (by omega)]) (by rw [h0]; decide), e3, updP_eq, if_neg (by decide), Int32.add_zero, hc]
    have hp1 := hq.1
    obtain ⟨t, fr, f2, hsh1, htm1, hfr1, hf21⟩ := hq.sh hs
    have hsh0 := hsh1
    first | refine aw_astore (q := 38) dX1_holds_36 (by decide) rfl ?_ | refine aw_astoreN (q := 38) dX1_holds_36 (by decide) rfl ?_ | refine aw_astoreQ (q := 38) dX1_holds_36 (by decide) rfl ?_
    try simp (config := {decide := true}) only [zput, zdel_q, zdel_f, zdel_t, zdel_nil, zdel_r, zdel_i, zdel_n]
    first | refine aw_aload (q := 40) dX1_holds_38 rfl rfl ?_ | refine aw_aloadN (q := 40) dX1_holds_38 rfl rfl ?_ | refine aw_aloadQ (q := 40) dX1_holds_38 rfl rfl ?_
    refine aw_z ?_
    refine aw_callV (q := 43) dX1_holds_40 (C_Opt_isEmptyN g3) cv_X1_275_18 (by assumption) rfl rfl (by decide) (by decide) (by first | exact Nat.le_of_ble_eq_true rfl | simp [zcat_rf, Value.category]) rfl (zpk ?_)
    refine aw_if_eq (tgt := 59) (q := 46) dX1_holds_43 (by decide) rfl (fun hZ => absurd hZ ((by decide))) (fun _ => ?_)
    first | refine aw_aload_n (i := 2) (q := 47) dX1_holds_46 rfl rfl rfl ?_ | refine aw_aloadN_n (i := 2) (q := 47) dX1_holds_46 rfl rfl rfl ?_ | refine aw_aloadQ_n (i := 2) (q := 47) dX1_holds_46 rfl rfl rfl ?_
    refine aw_iconst (v := 3) (q := 48) dX1_holds_47 rfl rfl ?_
    refine aw_putfield (q := 51) dX1_holds_48 gf_X1_263_5 hsh1 (by first | assumption | simp) (by first | rfl | exact znar_rf _ _ | exact zB_nar _) (by first | rfl | exact zfit_rf _ _ | exact zB_fit _) (Nat.le_of_ble_eq_true rfl) rfl (fun μ2 hg_μ2 => ?_)
    have hsh1 : μ2 _ = some _ := hg_μ2 ▸ updM_eq _ _ _
    simp only [List.set] at hsh1 hg_μ2
    obtain ⟨q1, q2⟩ := hq.sset (i := s) (j0 := 3) (v := 3) hO hs hsh0 htm1 hfr1 hf21 hg_μ2 (updP_ne (by omega)) ⟨by decide, by decide⟩ (updP_eq _ _ _ _ _) (updP_ne (by omega)) (updP_ne (by omega)) (updP_ne (by omega))
    have hp2 := q1.1
    have ec2 : pcn (updP P 3 s 3 3) 10 = n := (pcn_upd (by omega)).trans hn
    refine AW.bud (bc' := 0 + (pcn (updP P 3 s 3 3) 10 + 1)) (bs' := 0 + (4 * pcn (updP P 3 s 3 3) 10 + 4)) ?_ (by omega) (by omega)
    first | refine aw_aload_n (i := 0) (q := 52) dX1_holds_51 rfl rfl rfl ?_ | refine aw_aloadN_n (i := 0) (q := 52) dX1_holds_51 rfl rfl rfl ?_ | refine aw_aloadQ_n (i := 0) (q := 52) dX1_holds_51 rfl rfl rfl ?_
    refine aw_iload_n (i := 1) (q := 53) dX1_holds_52 rfl rfl rfl ?_
    refine aw_iconst (v := 1) (q := 54) dX1_holds_53 rfl rfl ?_
    refine aw_iconst (v := 0) (q := 55) dX1_holds_54 rfl rfl ?_
    refine aw_callV (q := 58) dX1_holds_55 (C_losesAll (s := s) (w := 1) (bd := false) q1 (hO.upd (Or.inl (by decide))) (hB.upd2 (by decide) (fun e => absurd e (by decide))) (by rw [pcn_upd (by omega)]; exact hs) (by decide)) cv_X1_234_1 (by assumption) rfl rfl (by decide) (by decide) (by first | exact Nat.le_of_ble_eq_true rfl | simp [zcat_rf, Value.category]) rfl (fun v55 μ3 hp => ?_)
    obtain ⟨rfl, h3, k3⟩ := hp
    exact aw_return dX1_holds_58 rfl (⟨rfl, by rw [eS, zupd_id rfl, eP]; exact h3, (k1.tr q2).tr k3⟩)
  · obtain ⟨Q, hQ⟩ : ∃ Q, tLight P (P 1 (tKd P s) 1) = Q := ⟨_, rfl⟩
    rw [hQ] at hq hone g4
    have eo : ∀ s' i j, (s' ≠ 2 ∨ j ≠ 2) → Q s' i j = P s' i j := fun s' i j q => by rw [← hQ]; exact tLight_o q
    have ec : ∀ j, pcn Q j = pcn P j := fun j => by rw [← hQ]; exact tLight_cn
    have hOQ : tOk Q := hO.congr (fun j _ _ => eo 0 0 j (Or.inl (by decide)))
    have hBQ : tBkOk Q := fun b hb => by
      rw [ec] at hb
      have z := hB b hb
      unfold tSh at z ⊢
      rw [eo 4 b 0 (Or.inl (by decide)), ec]
      exact z
    have eH : tHold P tZ s = tHoldLit Q tZ s (tKd P s) l := by
      unfold tHold; rw [if_pos g1, hQ, g4, nI_clamp (by omega)]
    obtain ⟨k, hk⟩ : ∃ k, tKd P s = k := ⟨_, rfl⟩
    rw [hk] at eH ki1 ki2 hki hsh ⊢
    obtain ⟨w, w1, w2, ew⟩ := hKL.1 k ki2
    obtain ⟨L, u, L1, L2, uL, eL, eu⟩ := hKL.2 l hl
    have eL : Q 2 l 0 = nI L := (eo 2 l 0 (Or.inr (by decide))).trans eL
    have eu : Q 2 l 1 = nI u := (eo 2 l 1 (Or.inr (by decide))).trans eu
    have ew : Q 1 k 0 = nI w := (eo 1 k 0 (Or.inl (by decide))).trans ew
    have hz1 : ∃ z, z ≤ 5000 ∧ zMn (Q 1 k 0) (Q 2 l 0 - Q 2 l 1) = nI z := by
      rw [ew, eL, eu, pk_sub uL]
      unfold zMn
      split
      · exact ⟨L - u, by omega, rfl⟩
      · exact ⟨w, by omega, rfl⟩
    obtain ⟨z, z1, z2⟩ := hz1
    have hfx := C_fitted hq hOQ hone
    rw [g4] at hfx
    have hp1 := hq.1
    have hki1 := hq.ki (i := k) (by rw [ec]; exact ki2)
    obtain ⟨t, fr, f2, hsh1, htm1, hfr1, hf21⟩ := hq.sh (i := s) (by rw [ec]; exact hs)
    have hsh0 := hsh1
    first | refine aw_astore (q := 38) dX1_holds_36 (by decide) rfl ?_ | refine aw_astoreN (q := 38) dX1_holds_36 (by decide) rfl ?_ | refine aw_astoreQ (q := 38) dX1_holds_36 (by decide) rfl ?_
    try simp (config := {decide := true}) only [zput, zdel_q, zdel_f, zdel_t, zdel_nil, zdel_r, zdel_i, zdel_n]
    first | refine aw_aload (q := 40) dX1_holds_38 rfl rfl ?_ | refine aw_aloadN (q := 40) dX1_holds_38 rfl rfl ?_ | refine aw_aloadQ (q := 40) dX1_holds_38 rfl rfl ?_
    refine aw_z ?_
    refine aw_callV (q := 43) dX1_holds_40 (C_Opt_isEmpty g6) cv_X1_275_18 (by assumption) rfl rfl (by decide) (by decide) (by first | exact Nat.le_of_ble_eq_true rfl | simp [zcat_rf, Value.category]) rfl (zpk ?_)
    refine aw_if_eq (tgt := 59) (q := 46) dX1_holds_43 (by decide) rfl (fun _ => ?_) (fun hZ => absurd (rfl) hZ)
    first | refine aw_aload_n (i := 2) (q := 60) dX1_holds_59 rfl rfl rfl ?_ | refine aw_aloadN_n (i := 2) (q := 60) dX1_holds_59 rfl rfl rfl ?_ | refine aw_aloadQ_n (i := 2) (q := 60) dX1_holds_59 rfl rfl rfl ?_
    first | refine aw_aload_n (i := 0) (q := 61) dX1_holds_60 rfl rfl rfl ?_ | refine aw_aloadN_n (i := 0) (q := 61) dX1_holds_60 rfl rfl rfl ?_ | refine aw_aloadQ_n (i := 0) (q := 61) dX1_holds_60 rfl rfl rfl ?_
    refine aw_z ?_
    refine aw_callV (q := 64) dX1_holds_61 (hfx) cv_X1_122_1 (by assumption) rfl rfl (by decide) (by decide) (by first | exact Nat.le_of_ble_eq_true rfl | simp [zcat_rf, Value.category]) rfl (zpk ?_)
    refine aw_putfield (q := 67) dX1_holds_64 gf_X1_278_5 hsh1 (by first | assumption | simp) (by first | rfl | exact znar_rf _ _ | exact zB_nar _) (by first | rfl | exact zfit_rf _ _ | exact zB_fit _) (Nat.le_of_ble_eq_true rfl) rfl (fun μ2 hg_μ2 => ?_)
    have g6 : μ2 _ = some _ := hg_μ2 ▸ (updM_ne (zneq g6 hsh1 (by simp))).trans g6
    have hki1 : μ2 _ = some _ := hg_μ2 ▸ (updM_ne (zneq hki1 hsh1 (by simp))).trans hki1
    have hsh1 : μ2 _ = some _ := hg_μ2 ▸ updM_eq _ _ _
    simp only [List.set] at hsh1 hg_μ2
    obtain ⟨q1, q2⟩ := hq.sset (i := s) (j0 := 4) (v := nI l) hOQ (by rw [ec]; exact hs) hsh0 htm1 hfr1 hf21 hg_μ2 (updP_ne (by omega)) ⟨by decide, by decide⟩ (updP_ne (by omega)) (updP_eq _ _ _ _ _) (updP_ne (by omega)) (updP_ne (by omega))
    have hO1 : tOk (updP Q 3 s 4 (nI l)) := hOQ.upd (Or.inl (by decide))
    have ec1 : ∀ j, pcn (updP Q 3 s 4 (nI l)) j = pcn P j := fun j => (pcn_upd (by omega)).trans (ec j)
    have hla := q1.la (i := l) (by rw [ec1]; exact hl)
    have el : ∀ j, updP Q 3 s 4 (nI l) 2 l j = Q 2 l j := fun j => updP_ne (by omega)
    have hlz : obT 2 l o ≠ zC := obT_nz
    first | refine aw_aload_n (i := 2) (q := 68) dX1_holds_67 rfl rfl rfl ?_ | refine aw_aloadN_n (i := 2) (q := 68) dX1_holds_67 rfl rfl rfl ?_ | refine aw_aloadQ_n (i := 2) (q := 68) dX1_holds_67 rfl rfl rfl ?_
    first | refine aw_aload (q := 70) dX1_holds_68 rfl rfl ?_ | refine aw_aloadN (q := 70) dX1_holds_68 rfl rfl ?_ | refine aw_aloadQ (q := 70) dX1_holds_68 rfl rfl ?_
    refine aw_z ?_
    refine aw_callV (q := 73) dX1_holds_70 (C_Opt_get g6) cv_X1_258_18 (by assumption) rfl rfl (by decide) (by decide) (by first | exact Nat.le_of_ble_eq_true rfl | simp [zcat_rf, Value.category]) rfl (zpk ?_)
    refine aw_cast (q := 76) dX1_holds_73 q512 hla ca_4_X4 rfl ?_
    first | refine aw_aload_n (i := 3) (q := 77) dX1_holds_76 rfl rfl rfl ?_ | refine aw_aloadN_n (i := 3) (q := 77) dX1_holds_76 rfl rfl rfl ?_ | refine aw_aloadQ_n (i := 3) (q := 77) dX1_holds_76 rfl rfl rfl ?_
    refine aw_getfield (q := 80) dX1_holds_77 gf_X1_281_3 (by assumption) rfl rfl ?_
    have hwr := C_Lamp_wear (G := G) (h := Q 1 k 0) hla hlz (by rw [el, el, z2, eu, nI_toInt (by omega), nI_toInt (by omega)]; omega) (by rw [el, el, z2, eu, nI_toInt (by omega), nI_toInt (by omega)]; omega)
    have hla0 := hla
    refine aw_z ?_
    refine aw_callV (q := 83) dX1_holds_80 (hwr) cv_X1_284_4 (by assumption) rfl rfl (by decide) (by decide) (by first | exact Nat.le_of_ble_eq_true rfl | simp [zcat_rf, Value.category]) rfl (fun v80 μ3 hp => ?_)
    obtain ⟨rfl, hg3⟩ := hp
    obtain ⟨q3, q4⟩ := q1.lwear hO1 (by rw [ec1]; exact hl) hg3
    have hki3 : μ3 (A 1 k) = _ := hg3 ▸ (updM_ne (zneq hki1 hla0 (by simp))).trans hki1
    rw [el, el, tWear_eq] at q3
    rw [el, el, tWear_eq]
    rw [el] at q3
    obtain ⟨v, hv⟩ : ∃ v, (if Q 2 l 1 + tHours Q k l = Q 2 l 0 then 2 else Q 2 l 2) = v := ⟨_, rfl⟩
    rw [hv] at q3
    obtain ⟨Q3, hQ3⟩ : ∃ Q3, updP (updP (updP Q 3 s 4 (nI l)) 2 l 1 (Q 2 l 1 + tHours Q k l)) 2 l 2 v = Q3 := ⟨_, rfl⟩
    rw [hQ3] at q3
    have ec3 : ∀ j, pcn Q3 j = pcn P j := fun j => by rw [← hQ3, pcn_upd (by omega), pcn_upd (by omega)]; exact ec1 j
    have hO3 : tOk Q3 := by rw [← hQ3]; exact (hO1.upd (Or.inl (by decide))).upd (Or.inl (by decide))
    have hB3 : tBkOk Q3 := by rw [← hQ3]; exact ((hBQ.upd2 (by decide) (fun e => absurd e (by decide))).upd2 (by decide) (fun e => absurd e (by decide))).upd2 (by decide) (fun e => absurd e (by decide))
    obtain ⟨t, fr, f2, hsh3, htm3, hfr3, hf23⟩ := q3.sh (i := s) (by rw [ec3]; exact hs)
    have hsh0 := hsh3
    refine aw_putfield (q := 86) dX1_holds_83 gf_X1_287_5 hsh3 (by first | assumption | simp) (by first | rfl | exact znar_rf _ _ | exact zB_nar _) (by first | rfl | exact zfit_rf _ _ | exact zB_fit _) (Nat.le_of_ble_eq_true rfl) rfl (fun μ4 hg_μ4 => ?_)
    have hki3 : μ4 _ = some _ := hg_μ4 ▸ (updM_ne (zneq hki3 hsh3 (by simp))).trans hki3
    have hsh3 : μ4 _ = some _ := hg_μ4 ▸ updM_eq _ _ _
    simp only [List.set] at hsh3 hg_μ4
    obtain ⟨q5, q6⟩ := q3.sset (i := s) (j0 := 5) (v := tHours Q k l) hO3 (by rw [ec3]; exact hs) hsh0 htm3 hfr3 hf23 hg_μ4 (updP_ne (by omega)) ⟨by decide, by decide⟩ (updP_ne (by omega)) (updP_ne (by omega)) (updP_eq _ _ _ _ _) (updP_ne (by omega))
    obtain ⟨Q5, hQ5⟩ : ∃ Q5, updP Q3 3 s 5 (tHours Q k l) = Q5 := ⟨_, rfl⟩
    rw [hQ5] at q5
    have ec5 : ∀ j, pcn Q5 j = pcn P j := fun j => by rw [← hQ5, pcn_upd (by omega)]; exact ec3 j
    have hO5 : tOk Q5 := by rw [← hQ5]; exact hO3.upd (Or.inl (by decide))
    have hB5 : tBkOk Q5 := by rw [← hQ5]; exact hB3.upd2 (by decide) (fun e => absurd e (by decide))
    have km : zKp (zKo o) μ μ4 := ((k1.tr q2).tr q4).tr q6
    have fin : ∀ st : Int32, (st = 1 ∨ st = 2) → st = (if tBreaks Q k l = true then 2 else 1) → ∀ L', AW G 9 MX1_holds (zHdP G μ p o P A c s) (n + 1) (m + 4) 103 ((0, .ref p) :: (1, .int (nI s)) :: (2, .ref (A 3 s)) :: L') [.int st, .ref (A 3 s)] μ4 := by
      intro st hst est L'
      have hst4 : st ≠ 4 := by rcases hst with rfl | rfl <;> decide
      refine aw_locals (L' := [(0, .ref p), (1, .int (nI s)), (2, .ref (A 3 s))]) (by exact ⟨rfl, rfl, rfl, trivial⟩) ?_
      obtain ⟨t, fr, f2, hsh5, htm5, hfr5, hf25⟩ := q5.sh (i := s) (by rw [ec5]; exact hs)
      have hsh0 := hsh5
      refine aw_putfield (q := 106) dX1_holds_103 gf_X1_263_5 hsh5 (by first | assumption | simp) (by first | rfl | exact znar_rf _ _ | exact zB_nar _) (by first | rfl | exact zfit_rf _ _ | exact zB_fit _) (Nat.le_of_ble_eq_true rfl) rfl (fun μ5 hg_μ5 => ?_)
      have hsh5 : μ5 _ = some _ := hg_μ5 ▸ updM_eq _ _ _
      simp only [List.set] at hsh5 hg_μ5
      obtain ⟨r1, r2⟩ := q5.sset (i := s) (j0 := 3) (v := st) hO5 (by rw [ec5]; exact hs) hsh0 htm5 hfr5 hf25 hg_μ5 (updP_ne (by omega)) ⟨by decide, by decide⟩ (updP_eq _ _ _ _ _) (updP_ne (by omega)) (updP_ne (by omega)) (updP_ne (by omega))
      obtain ⟨Q6, hQ6⟩ : ∃ Q6, updP Q5 3 s 3 st = Q6 := ⟨_, rfl⟩
      rw [hQ6] at r1
      have ec6 : ∀ j, pcn Q6 j = pcn P j := fun j => by rw [← hQ6, pcn_upd (by omega)]; exact ec5 j
      have hO6 : tOk Q6 := by rw [← hQ6]; exact hO5.upd (Or.inl (by decide))
      have hB6 : tBkOk Q6 := by rw [← hQ6]; exact hB5.upd2 (by decide) (fun e => absurd e (by decide))
      have e63 : Q6 3 s 3 = st := by rw [← hQ6]; exact updP_eq _ _ _ _ _
      -- the numbers at the end
      have eW : updP Q6 2 l 3 (Q 2 l 3 + 1) = updP (tWorn Q s k l) 2 l 2 v := by
        rw [← hQ6, ← hQ5, ← hQ3]
        exact tWorn_ord rfl rfl est
      have eF : ∀ N, N = pcn P 10 → (tHold P tZ s).1 = updP (tCloseN Q6 tZ s st N).1 2 l 3 (Q 2 l 3 + 1) := by
        intro N hN
        have et2 : ∀ j, (tCloseN (tWorn Q s k l) tZ s st N).1 2 l j = tWorn Q s k l 2 l j := fun j => tCloseN_same N 2 l j (by omega)
        have ew1 : tWorn Q s k l 2 l 1 = Q 2 l 1 + tHours Q k l := by unfold tWorn; rw [updP_ne (by omega), updP_ne (by omega), updP_ne (by omega), updP_ne (by omega), updP_eq]
        have ew0 : tWorn Q s k l 2 l 0 = Q 2 l 0 := by unfold tWorn; rw [updP_ne (by omega), updP_ne (by omega), updP_ne (by omega), updP_ne (by omega), updP_ne (by omega)]
        have ew2 : tWorn Q s k l 2 l 2 = Q 2 l 2 := by unfold tWorn; rw [updP_ne (by omega), updP_ne (by omega), updP_ne (by omega), updP_ne (by omega), updP_ne (by omega)]
        have ewc : pcn (tWorn Q s k l) 10 = N := by
          unfold tWorn
          rw [pcn_upd (by omega), pcn_upd (by omega), pcn_upd (by omega), pcn_upd (by omega), pcn_upd (by omega), ec, hN]
        rw [← tCloseN_lamp hst4, eW, tCloseN_lamp hst4, eH]
        unfold tHoldLit tHeld tClose
        rw [← est, ewc]
        dsimp only
        rw [et2, et2, et2, ew1, ew0, ew2, hv]
      have eS : tShowsIn (tHold P tZ s).1 1 = c 0 + (if st = 1 then 1 else 0) := by
        have e3 : ∀ j, (tHold P tZ s).1 3 j 3 = Q6 3 j 3 := fun j => by rw [eF _ rfl, updP_ne (by omega)]; exact tCloseN_same _ 3 j 3 (by omega)
        have e63o : ∀ j, j ≠ s → Q6 3 j 3 = P 3 j 3 := fun j hj => by
          rw [← hQ6, updP_ne (by omega), ← hQ5, updP_ne (by omega), ← hQ3, updP_ne (by omega), updP_ne (by omega), updP_ne (by omega)]
          exact eo 3 j 3 (Or.inl (by decide))
        rw [tShowsIn_set (P := P) (s := s) hs (by rw [eF _ rfl, pcn_upd (by omega), (tCloseN_same _).cn, ec6]) (fun j hj => by rw [e3, e63o j hj]) (by rw [h0]; decide), e3, e63, hc]
      have rest : ∀ (x : Int32), x = (if st = 1 then 1 else 0) → AW G 9 MX1_holds (zHdP G μ p o P A c s) (n + 1) (m + 4) 124 [(0, .ref p), (1, .int (nI s)), (2, .ref (A 3 s))] [.int x, .int (c 0), .ref p] μ5 := by
        intro x hx
        have hp5 := r1.1
        refine aw_iadd (q := 125) dX1_holds_124 rfl ?_
        refine aw_putfield (q := 128) dX1_holds_125 gf_X1_108_1 hp5 (by first | assumption | simp) (by first | rfl | exact znar_rf _ _ | exact zB_nar _) (by first | rfl | exact zfit_rf _ _ | exact zB_fit _) (Nat.le_of_ble_eq_true rfl) rfl (fun μ6 hg_μ6 => ?_)
        have hp5 : μ6 _ = some _ := hg_μ6 ▸ updM_eq _ _ _
        simp only [List.set] at hp5 hg_μ6
        obtain ⟨r3, r4⟩ := r1.held (v := c 0 + x) hg_μ6
        rw [hx, ← eS] at r3
        have hL6 := r3.lbk
        obtain ⟨_, chL6⟩ := hL6.cell
        have hp6 := r3.1
        first | refine aw_aload_n (i := 0) (q := 129) dX1_holds_128 rfl rfl rfl ?_ | refine aw_aloadN_n (i := 0) (q := 129) dX1_holds_128 rfl rfl rfl ?_ | refine aw_aloadQ_n (i := 0) (q := 129) dX1_holds_128 rfl rfl rfl ?_
        refine aw_getfield (q := 132) dX1_holds_129 gf_X1_28_1 (by assumption) rfl rfl ?_
        refine aw_callF (q := 137) dX1_holds_132 (C_AL_iterator (u := zTI) hL6 zTI_nz) cf_X1_50_14 (by assumption) rfl rfl (by decide) (by decide) (by first | exact Nat.le_of_ble_eq_true rfl | simp [zcat_rf, Value.category]) rfl (fun v132 μ7 hp => ?_)
        obtain ⟨it, rfl, itn, hg7⟩ := hp
        first | refine aw_astore (q := 139) dX1_holds_137 (by decide) rfl ?_ | refine aw_astoreN (q := 139) dX1_holds_137 (by decide) rfl ?_ | refine aw_astoreQ (q := 139) dX1_holds_137 (by decide) rfl ?_
        try simp (config := {decide := true}) only [zput, zdel_q, zdel_f, zdel_t, zdel_nil, zdel_r, zdel_i, zdel_n]
        refine aw_locals (L' := [(0, .ref p), (1, .int (nI s)), (2, .ref (A 3 s)), (5, .ref it)]) (by exact ⟨rfl, rfl, rfl, rfl, trivial⟩) ?_
        have r7 := zF.pr r3 (hg7 ▸ zKp.new itn)
        have hit7 : μ7 it = _ := hg7 ▸ updM_eq _ _ _
        refine AW.bud (hld_loop (μ := μ6) (P := Q6) hst hO6 hB6 (by rw [ec6]; exact hs) e63 (k0 := .null) (l0 := .null) (post := zHdP G μ p o P A c s) (fun μ' g1 g2 => ⟨rfl, ?_, ((km.tr r2).tr r4).tr g2⟩) itn (pcn Q6 10) 0 (-1) μ7 (by omega) r7 (hg7 ▸ zKp.new itn) hit7) (by rw [ec6]; omega) (by rw [ec6]; omega)
        have g3 := g1.l3 (i := l) (v := Q 2 l 3 + 1) ((tCloseN_same _).ok hO6) (by rw [(tCloseN_same _).cn, ec6]; exact hl)
        rw [← eF _ (ec6 10)] at g3
        exact g3
      have hp5 := r1.1
      rcases hst with rfl | rfl
      · skip
        first | refine aw_aload_n (i := 0) (q := 107) dX1_holds_106 rfl rfl rfl ?_ | refine aw_aloadN_n (i := 0) (q := 107) dX1_holds_106 rfl rfl rfl ?_ | refine aw_aloadQ_n (i := 0) (q := 107) dX1_holds_106 rfl rfl rfl ?_
        refine aw_dup (q := 108) dX1_holds_107 (by first | rfl | exact zcat_rf _) rfl ?_
        refine aw_getfield (q := 111) dX1_holds_108 gf_X1_108_1 (by assumption) rfl rfl ?_
        first | refine aw_aload_n (i := 2) (q := 112) dX1_holds_111 rfl rfl rfl ?_ | refine aw_aloadN_n (i := 2) (q := 112) dX1_holds_111 rfl rfl rfl ?_ | refine aw_aloadQ_n (i := 2) (q := 112) dX1_holds_111 rfl rfl rfl ?_
        refine aw_getfield (q := 115) dX1_holds_112 gf_X1_263_5 (by assumption) rfl rfl ?_
        refine aw_iconst (v := 1) (q := 116) dX1_holds_115 rfl rfl ?_
        refine aw_icmp_ne (tgt := 123) (q := 119) dX1_holds_116 (by decide) rfl (fun hZ => absurd (rfl) hZ) (fun _ => ?_)
        refine aw_iconst (v := 1) (q := 120) dX1_holds_119 rfl rfl ?_
        refine aw_goto (tgt := 124) dX1_holds_120 (by decide) ?_
        exact rest 1 rfl
      · skip
        first | refine aw_aload_n (i := 0) (q := 107) dX1_holds_106 rfl rfl rfl ?_ | refine aw_aloadN_n (i := 0) (q := 107) dX1_holds_106 rfl rfl rfl ?_ | refine aw_aloadQ_n (i := 0) (q := 107) dX1_holds_106 rfl rfl rfl ?_
        refine aw_dup (q := 108) dX1_holds_107 (by first | rfl | exact zcat_rf _) rfl ?_
        refine aw_getfield (q := 111) dX1_holds_108 gf_X1_108_1 (by assumption) rfl rfl ?_
        first | refine aw_aload_n (i := 2) (q := 112) dX1_holds_111 rfl rfl rfl ?_ | refine aw_aloadN_n (i := 2) (q := 112) dX1_holds_111 rfl rfl rfl ?_ | refine aw_aloadQ_n (i := 2) (q := 112) dX1_holds_111 rfl rfl rfl ?_
        refine aw_getfield (q := 115) dX1_holds_112 gf_X1_263_5 (by assumption) rfl rfl ?_
        refine aw_iconst (v := 1) (q := 116) dX1_holds_115 rfl rfl ?_
        refine aw_icmp_ne (tgt := 123) (q := 119) dX1_holds_116 (by decide) rfl (fun _ => ?_) (fun hZ => absurd hZ ((by decide)))
        refine aw_iconst (v := 0) (q := 124) dX1_holds_123 rfl rfl ?_
        exact rest 0 (if_neg (by decide)).symm
    first | refine aw_aload_n (i := 2) (q := 87) dX1_holds_86 rfl rfl rfl ?_ | refine aw_aloadN_n (i := 2) (q := 87) dX1_holds_86 rfl rfl rfl ?_ | refine aw_aloadQ_n (i := 2) (q := 87) dX1_holds_86 rfl rfl rfl ?_
    first | refine aw_aload_n (i := 2) (q := 88) dX1_holds_87 rfl rfl rfl ?_ | refine aw_aloadN_n (i := 2) (q := 88) dX1_holds_87 rfl rfl rfl ?_ | refine aw_aloadQ_n (i := 2) (q := 88) dX1_holds_87 rfl rfl rfl ?_
    refine aw_getfield (q := 91) dX1_holds_88 gf_X1_287_5 (by assumption) rfl rfl ?_
    first | refine aw_aload_n (i := 3) (q := 92) dX1_holds_91 rfl rfl rfl ?_ | refine aw_aloadN_n (i := 3) (q := 92) dX1_holds_91 rfl rfl rfl ?_ | refine aw_aloadQ_n (i := 3) (q := 92) dX1_holds_91 rfl rfl rfl ?_
    refine aw_getfield (q := 95) dX1_holds_92 gf_X1_281_3 (by assumption) rfl rfl ?_
    cases hbk : tBreaks Q k l with
    | true =>
      have hb : Q 2 l 0 - Q 2 l 1 < Q 1 k 0 := of_decide_eq_true hbk
      have ehh : tHours Q k l = Q 2 l 0 - Q 2 l 1 := if_pos hbk
      refine aw_icmp_ge (tgt := 102) (q := 98) dX1_holds_95 (by decide) rfl (fun hZ => absurd hZ ((by rw [ehh]; exact Int32.not_le.mpr hb))) (fun _ => ?_)
      refine aw_iconst (v := 2) (q := 99) dX1_holds_98 rfl rfl ?_
      refine aw_goto (tgt := 103) dX1_holds_99 (by decide) ?_
      exact aw_locals (by exact ⟨rfl, rfl, rfl, trivial⟩) (fin 2 (Or.inr rfl) (by rw [hbk]; rfl) [])
    | false =>
      have ehh : tHours Q k l = Q 1 k 0 := if_neg (by rw [hbk]; decide)
      refine aw_icmp_ge (tgt := 102) (q := 98) dX1_holds_95 (by decide) rfl (fun _ => ?_) (fun hZ => absurd ((by rw [ehh]; exact Int32.le_refl _)) hZ)
      refine aw_iconst (v := 1) (q := 103) dX1_holds_102 rfl rfl ?_
      exact aw_locals (by exact ⟨rfl, rfl, rfl, trivial⟩) (fin 1 (Or.inl rfl) (by rw [hbk]; rfl) [])
end ZPM1
