/-! THE PROGRAMME: displaces -/
set_option maxRecDepth 100000
theorem tTally_u33 {Q : zP} {s' b w : Nat} {v : Int32} : tTally (updP Q 3 s' 3 v) b w = updP (tTally Q b w) 3 s' 3 v := by
  have e : ∀ x y z, ¬ (x = 3 ∧ z = 3) → updP Q 3 s' 3 v x y z = Q x y z := fun x y z h => updP_ne (by omega)
  have es : tSh (updP Q 3 s' 3 v) b = tSh Q b := by unfold tSh; rw [e 4 b 0 (by omega)]
  funext x y z
  have c1 : (x = 6 ∧ z = 5 + w ∧ y < pcn (updP Q 3 s' 3 v) 12 ∧ tForD (updP Q 3 s' 3 v) b y ∧ updP Q 3 s' 3 v 3 (tSh (updP Q 3 s' 3 v) b) 1 ≤ updP Q 3 s' 3 v 6 y 3) ↔ (x = 6 ∧ z = 5 + w ∧ y < pcn Q 12 ∧ tForD Q b y ∧ Q 3 (tSh Q b) 1 ≤ Q 6 y 3) := by
    show (x = 6 ∧ z = 5 + w ∧ y < pcn (updP Q 3 s' 3 v) 12 ∧ (updP Q 3 s' 3 v 6 y 4 = 0 ∧ updP Q 3 s' 3 v 6 y 0 = updP Q 3 s' 3 v 4 b 2 ∧ updP Q 3 s' 3 v 6 y 1 = updP Q 3 s' 3 v 3 (tSh (updP Q 3 s' 3 v) b) 0) ∧ _ ≤ _) ↔ _
    rw [pcn_upd (by omega), es, e 6 y 4 (by omega), e 6 y 0 (by omega), e 4 b 2 (by omega), e 6 y 1 (by omega), e 3 (tSh Q b) 0 (by omega), e 3 (tSh Q b) 1 (by omega), e 6 y 3 (by omega)]
  have e1 : tTally (updP Q 3 s' 3 v) b w x y z = if x = 6 ∧ z = 5 + w ∧ y < pcn Q 12 ∧ tForD Q b y ∧ Q 3 (tSh Q b) 1 ≤ Q 6 y 3 then updP Q 3 s' 3 v x y z + Q 4 b 1 else updP Q 3 s' 3 v x y z := by
    unfold tTally tTallyN
    exact zif_congr c1 (by rw [e 4 b 1 (by omega)]) rfl
  have e2 : tTally Q b w x y z = if x = 6 ∧ z = 5 + w ∧ y < pcn Q 12 ∧ tForD Q b y ∧ Q 3 (tSh Q b) 1 ≤ Q 6 y 3 then Q x y z + Q 4 b 1 else Q x y z := rfl
  rw [e1]
  by_cases q : x = 3 ∧ y = s' ∧ z = 3
  · obtain ⟨rfl, rfl, rfl⟩ := q
    rw [if_neg (fun q => by omega), updP_eq, updP_eq]
  · rw [updP_ne q, updP_ne q, e2]
theorem tLose_u33 {Q : zP} {s' b w : Nat} {v : Int32} : tLose (updP Q 3 s' 3 v) b w = updP (tLose Q b w) 3 s' 3 v := by
  have e : updP Q 3 s' 3 v 4 b 5 = Q 4 b 5 := updP_ne (by omega)
  unfold tLose
  rw [tTally_u33, e]
  funext x y z
  unfold tVacate tVacateN
  by_cases q : x = 3 ∧ y = s' ∧ z = 3
  · obtain ⟨rfl, rfl, rfl⟩ := q
    rw [if_neg (by omega), updP_eq, updP_eq]
  · rw [updP_ne q]
    show _ = updP _ 3 s' 3 v x y z
    rw [updP_ne q]
theorem tLosN_u33 {P : zP} {s s' w : Nat} {bd : Bool} {v : Int32} : ∀ n, tLosN (updP P 3 s' 3 v) s w bd n = updP (tLosN P s w bd n) 3 s' 3 v
  | 0 => rfl
  | n + 1 => by
    have ih := tLosN_u33 (P := P) (s := s) (s' := s') (w := w) (bd := bd) (v := v) n
    have e : ∀ j, updP P 3 s' 3 v 4 n j = P 4 n j := fun j => updP_ne (by omega)
    by_cases q : P 4 n 0 = nI s ∧ P 4 n 4 = 0 ∧ (bd = true → P 4 n 3 ≠ 0)
    · have e1 : tLosN (updP P 3 s' 3 v) s w bd (n + 1) = tLose (tLosN (updP P 3 s' 3 v) s w bd n) n w := if_pos (by rw [e, e, e]; exact q)
      have e2 : tLosN P s w bd (n + 1) = tLose (tLosN P s w bd n) n w := if_pos q
      rw [e1, e2, ih, tLose_u33]
    · have e1 : tLosN (updP P 3 s' 3 v) s w bd (n + 1) = tLosN (updP P 3 s' 3 v) s w bd n := if_neg (by rw [e, e, e]; exact q)
      have e2 : tLosN P s w bd (n + 1) = tLosN P s w bd n := if_neg q
      rw [e1, e2, ih]
theorem tDispN_out {P : zP} {D : Nat → Int32} {s : Nat} {d t : Int32} : ∀ n, (tDispN P D s false d t n).1 = tLosN P s 2 false n
  | 0 => rfl
  | n + 1 => by
    have ih := tDispN_out (P := P) (D := D) (s := s) (d := d) (t := t) n
    by_cases q : P 4 n 0 = nI s ∧ P 4 n 4 = 0
    · have e1 : (tDispN P D s false d t (n + 1)).1 = tLose (tDispN P D s false d t n).1 n 2 := by
        have z : tDispN P D s false d t (n + 1) = _ := if_pos q
        rw [z, if_pos (Or.inl rfl)]
      have e2 : tLosN P s 2 false (n + 1) = tLose (tLosN P s 2 false n) n 2 := if_pos ⟨q.1, q.2, fun z => by cases z⟩
      rw [e1, e2, ih]
    · have e1 : (tDispN P D s false d t (n + 1)).1 = (tDispN P D s false d t n).1 := by
        have z : tDispN P D s false d t (n + 1) = _ := if_neg q
        rw [z]
      have e2 : tLosN P s 2 false (n + 1) = tLosN P s 2 false n := if_neg (fun z => q ⟨z.1, z.2.1⟩)
      rw [e1, e2, ih]
/-- displace's outcome, as the component comes by it -/
theorem tDisp_goes {P : zP} {D : Nat → Int32} {s u : Nat} (hb : tBd P) (hu : tDispTo P s = u) (hg : tGoes P s = true) : (tDisplace P D s).1 = tMvd (tMovN P (tLosN P s 2 true (pcn P 10)) s (P 3 s 1) (nI (u / 6)) (pcn P 10)) s u := by
  have sQ : tSame P (tMovN P (tLosN P s 2 true (pcn P 10)) s (P 3 s 1) (nI (u / 6)) (pcn P 10)) := (tLosN_same _).tr (tMovN_same _)
  unfold tDisplace tMvd
  rw [if_pos hg, hu]
  try dsimp only
  rw [tDispN_mov hb _ (Nat.le_refl _), sQ 3 s 6 (by omega)]
theorem tDisp_out {P : zP} {D : Nat → Int32} {s : Nat} (hg : tGoes P s = false) : (tDisplace P D s).1 = tLosN (updP P 3 s 3 4) s 2 false (pcn P 10) := by
  unfold tDisplace
  rw [if_neg (by rw [hg]; decide)]
  try dsimp only
  rw [tDispN_out, tLosN_u33]
theorem tDisp_time {P : zP} {s t : Nat} (h1 : P 3 s 1 = nI (t / 6)) (h2 : P 3 s 2 = nI (t % 6)) (ht : t < 8192) : tDispTo P s = tFirst P (t + 1) := by
  unfold tDispTo
  rw [h1, h2, nI_clamp (by omega), nI_clamp (by omega)]
  congr 1
  omega
section ZPS1
variable {G : zG} {μ μ' : zM} {p o : Nat} {P : zP} {A : Nat → Nat → Nat} {c : Nat → Int32}
/-- what displaces leaves -/
def zDsP (G : zG) (μ : zM) (p o : Nat) (P : zP) (A : Nat → Nat → Nat) (c : Nat → Int32) (ks' : List Nat) (val' : Nat → Nat) (s : Nat) : Option Value → zM → Prop := fun v μ' => v = none ∧ zPR G μ' p o (tDisplace P tZ s).1 A c ∧ (∃ ks val, zMap1 G μ' o A ks val ∧ zPlq (tDisplace P tZ s).1 (zPlan (tDisplace P tZ s).1) ks val) ∧ zMap2 G μ' o A ks' val' ∧ zKp (zOw o) μ μ'
theorem zPR.fr0 (h : zPR G μ p o P A c) : ∃ fse, μ (A 0 0) = some (pgT 1 o, aI G 6 fse) ∧ ∀ j, j < 6 → fse j = P 0 0 j := h.2.1
set_option maxHeartbeats 2000000 in
theorem C_displaces {a t w mv : Nat} {ks ks' : List Nat} {val val' : Nat → Nat} (h : zPR G μ p o P A c) (m1 : zMap1 G μ o A ks val) (hPl : zPlq P (zPlan P) ks val) (m2 : zMap2 G μ o A ks' val') (hEv : zEvq P ks' val') (hO : tOk P) (hB : tBkOk P) (hbd : tBd P) (hTm : tTimes P) (hmv : P 0 0 0 = nI mv) (hmv2 : mv ≤ 14) (ht : t ∈ ks) (h8 : t < 8000) (ha : zTim μ a t) (hw : zWd P (zPlan P) w) (w1 : w ≤ t) (w2 : t + 100 ≤ w + 512) : Meets G 11 MX1_displaces [.ref p, .ref a] μ (zDsP G μ p o P A c ks' val' (val t)) (2 * pcn P 10 + 1226) (8 * pcn P 10 + 6741) := by
  have hp := h.1
  obtain ⟨s, es⟩ : ∃ s, val t = s := ⟨_, rfl⟩
  have hdel := hPl.del ht
  obtain ⟨hs, h0, e1, e2, -⟩ := hPl.1 t ht
  have hlen := hPl.2.2.2
  have hdl := zDel_len ht
  rw [es] at hdel hs h0 e1 e2 ⊢
  have h0 : P 3 s 3 = 0 := h0
  have s60 : pcn P 9 ≤ 60 := hO.s.2
  have hsz : obT 3 s o ≠ zC := obT_nz
  obtain ⟨k0, hk08, hmk⟩ := zHM.rank m1
  have hrm := C_HM_remove hmk ha (by omega) (by omega) (by omega)
  rw [if_pos ht, es] at hrm
  obtain ⟨f1, c1⟩ := zHM.cell m1
  obtain ⟨fse, hse, hsf⟩ := h.fr0
  have hse0 : fse 0 = nI mv := (hsf 0 (by decide)).trans hmv
  -- where it goes
  obtain ⟨u, hu⟩ : ∃ u, tDispTo P s = u := ⟨_, rfl⟩
  have hu' : tFirst P (t + 1) = u := (tDisp_time e1 e2 (by omega)).symm.trans hu
  obtain ⟨u1, u2, u3, u4⟩ := tFirst_spec hTm (t := t + 1) (by omega)
  rw [hu'] at u1 u2 u3 u4
  have hF : ∀ y, t + 1 ≤ y → y < 8192 → (tFreeT P y ↔ y ∉ zDel t ks ∧ y ∉ ks') := fun y y1 y2 => by
    rw [zFree_iff hO hPl hEv y2]
    refine ⟨fun q => ⟨fun z => q.1 ((zDel_mem hPl.2.2.1).mp z).1, q.2⟩, fun q => ⟨fun z => q.1 ((zDel_mem hPl.2.2.1).mpr ⟨z, by omega⟩), q.2⟩⟩
  have elast : nI (t / 6) + nI mv = nI (t / 6 + mv) := nI_add _ _
  have hlt : ∀ y, y < 20000 → (nI (t / 6 + mv) < nI (y / 6) ↔ t / 6 + mv < y / 6) := fun y hy => nI_ltI (by omega) (by omega)
  obtain ⟨n, hn1, hn2⟩ : ∃ n, n ≤ 90 ∧ t + 1 + n = (if u / 6 ≤ t / 6 + mv then u else 6 * (t / 6 + mv + 1)) := by
    split
    · exact ⟨u - (t + 1), by omega, by omega⟩
    · exact ⟨6 * (t / 6 + mv + 1) - (t + 1), by omega, by omega⟩
  obtain ⟨y, hy⟩ : ∃ y, t + 1 + n = y := ⟨_, rfl⟩
  have hy2 : y = (if u / 6 ≤ t / 6 + mv then u else 6 * (t / 6 + mv + 1)) := hy.symm.trans hn2
  obtain ⟨N1, hN1⟩ : ∃ x, x = 2 * pcn P 10 + 1134 := ⟨_, rfl⟩
  obtain ⟨N2, hN2⟩ : ∃ x, x = 8 * pcn P 10 + 6558 := ⟨_, rfl⟩
  refine meets_of (by decide +kernel) (Nat.le_of_ble_eq_true rfl) ?_
  refine AW.bud (bc' := (N1 + (n + 1)) + 1) (bs' := (N2 + (2 * n + 1)) + 2) ?_ (by omega) (by omega)
  refine aw_const (fun hcs => ?_)
  have hbox : μ (G.2.2.2 (228 + s)) = _ := hcs _ _ (Or.inl ⟨s + 128, by omega, by rw [show 100 + (s + 128) = 228 + s by omega], rfl⟩)
  first | refine aw_aload_n (i := 0) (q := 1) dX1_displaces_0 rfl rfl rfl ?_ | refine aw_aloadN_n (i := 0) (q := 1) dX1_displaces_0 rfl rfl rfl ?_ | refine aw_aloadQ_n (i := 0) (q := 1) dX1_displaces_0 rfl rfl rfl ?_
  refine aw_getfield (q := 4) dX1_displaces_1 gf_X1_37_1 (by assumption) rfl rfl ?_
  first | refine aw_aload_n (i := 1) (q := 5) dX1_displaces_4 rfl rfl rfl ?_ | refine aw_aloadN_n (i := 1) (q := 5) dX1_displaces_4 rfl rfl rfl ?_ | refine aw_aloadQ_n (i := 1) (q := 5) dX1_displaces_4 rfl rfl rfl ?_
  refine aw_z ?_
  refine aw_callF (q := 10) dX1_displaces_5 (hrm) cf_X1_244_19 (by assumption) rfl rfl (by decide) (by decide) (by first | exact Nat.le_of_ble_eq_true rfl | simp [zcat_rf, Value.category]) rfl (fun v5 μ1 hp => ?_)
  obtain ⟨rfl, m1', k1⟩ := hp
  have hp1 : μ1 p = some (pgT 0 o, oPG A c P) := k1 _ _ _ hp (fun z => by have z2 : 20000 < 3 + 8194 := z.2.2; omega)
  have hse1 : μ1 (A 0 0) = _ := k1 _ _ _ hse (fun z => by have z2 : 20001 < 3 + 8194 := z.2.2; omega)
  have h1 := h.mp k1 (by omega) (by omega)
  have ha1 := zTm_mt ha k1 (by omega)
  have m21 : zMap2 G μ1 o A ks' val' := zHM.mo m2 k1 (by omega) (by omega)
  have m11 : zMap1 G μ1 o A (zDel t ks) val := m1'.hm
  have hbox1 : μ1 (G.2.2.2 (228 + s)) = some (zC, oInt (vb_c (s + 128))) := k1 _ _ _ hbox (fun z => by have z2 : 3 ≤ 0 := z.2.1; omega)
  refine aw_cast (q := 13) dX1_displaces_10 q1404 hbox1 ca_12_J17 rfl ?_
  refine aw_z ?_
  refine aw_callV (q := 16) dX1_displaces_13 (C_intValue hbox1) cv_X1_248_12 (by assumption) rfl rfl (by decide) (by decide) (by first | exact Nat.le_of_ble_eq_true rfl | simp [zcat_rf, Value.category]) rfl (zpk ?_)
  rw [zBox_c]
  refine aw_istore_n (i := 2) (q := 17) dX1_displaces_16 rfl (by decide) rfl ?_
  first | refine aw_aload_n (i := 0) (q := 18) dX1_displaces_17 rfl rfl rfl ?_ | refine aw_aloadN_n (i := 0) (q := 18) dX1_displaces_17 rfl rfl rfl ?_ | refine aw_aloadQ_n (i := 0) (q := 18) dX1_displaces_17 rfl rfl rfl ?_
  first | refine aw_aload_n (i := 1) (q := 19) dX1_displaces_18 rfl rfl rfl ?_ | refine aw_aloadN_n (i := 1) (q := 19) dX1_displaces_18 rfl rfl rfl ?_ | refine aw_aloadQ_n (i := 1) (q := 19) dX1_displaces_18 rfl rfl rfl ?_
  refine aw_callV (q := 22) dX1_displaces_19 (C_Time_next (d := t / 6) (s := t % 6) ha1 (by omega) (by omega) z00_nz) cv_X1_218_8 (by assumption) rfl rfl (by decide) (by decide) (by first | exact Nat.le_of_ble_eq_true rfl | simp [zcat_rf, Value.category]) rfl (fun v19 μ2 hp => ?_)
  obtain ⟨b, rfl, hnb, hg2⟩ := hp
  rw [show 6 * (t / 6) + t % 6 + 1 = t + 1 by omega] at hg2
  have k2 : zKp zF μ1 μ2 := hg2 ▸ zKp.new hnb
  have h2 := zF.pr h1 k2
  have hp2 : μ2 p = some (pgT 0 o, oPG A c P) := k2 _ _ _ hp1 (fun z => z)
  have hse2 : μ2 (A 0 0) = _ := k2 _ _ _ hse1 (fun z => z)
  have ha2 : zTim μ2 a t := k2 _ _ _ ha1 (fun z => z)
  have hb2 : zTim μ2 b (t + 1) := hg2 ▸ updM_eq _ _ _
  first | refine aw_aload_n (i := 1) (q := 23) dX1_displaces_22 rfl rfl rfl ?_ | refine aw_aloadN_n (i := 1) (q := 23) dX1_displaces_22 rfl rfl rfl ?_ | refine aw_aloadQ_n (i := 1) (q := 23) dX1_displaces_22 rfl rfl rfl ?_
  refine aw_getfield (q := 26) dX1_displaces_23 gf_X1_206_8 (by assumption) rfl rfl ?_
  first | refine aw_aload_n (i := 0) (q := 27) dX1_displaces_26 rfl rfl rfl ?_ | refine aw_aloadN_n (i := 0) (q := 27) dX1_displaces_26 rfl rfl rfl ?_ | refine aw_aloadQ_n (i := 0) (q := 27) dX1_displaces_26 rfl rfl rfl ?_
  refine aw_getfield (q := 30) dX1_displaces_27 gf_X1_9_1 (by assumption) rfl rfl ?_
  refine aw_iconst (v := 0) (q := 31) dX1_displaces_30 rfl rfl ?_
  refine aw_iald (q := 32) (v := nI mv) (0) dX1_displaces_31 (by assumption) (by first | assumption | (simp only [← nI_add, ← pk_mul]; rfl) | rfl) (by omega) (by omega) (hse0) rfl ?_
  refine aw_iadd (q := 33) dX1_displaces_32 rfl ?_
  rw [elast]
  have hff := C_freeFrom (n := n) (last := nI (t / 6 + mv)) h2 (zHM.fr m11 k2) (zHM.fr m21 k2) hb2 (by rw [hy, hy2]; split <;> omega) ?_ ?_
  · rw [hy] at hff
    refine aw_callV (q := 36) dX1_displaces_33 (hff) cv_X1_251_1 (by assumption) rfl rfl (by decide) (by decide) (by first | exact Nat.le_of_ble_eq_true rfl | simp [zcat_rf, Value.category]) rfl (fun v33 μ3 hp => ?_)
    obtain ⟨k3, hres⟩ := hp
    have h3 := zF.pr h2 k3
    have m13 : zMap1 G μ3 o A (zDel t ks) val := zHM.fr (zHM.fr m11 k2) k3
    have m23 : zMap2 G μ3 o A ks' val' := zHM.fr (zHM.fr m21 k2) k3
    have hp3 := h3.1
    have k03 : zKp (zOw o) μ μ3 := (k1.mt.tr k2.f0).tr k3.f0
    rcases hres with ⟨q1, rfl, q3⟩ | ⟨q1, ob, x, rfl, q3, q4⟩
    · have q1 := (hlt y (by rw [hy2]; split <;> omega)).mp q1
      have hnu : ¬ u / 6 ≤ t / 6 + mv := fun z => by rw [hy2, if_pos z] at q1; omega
      have hg : tGoes P s = false := decide_eq_false (fun z => z (by rw [hu, e1, hmv, elast]; exact (hlt u (by omega)).mpr (by omega)))
      have hL3 := h3.lsh
      obtain ⟨_, chL3⟩ := hL3.cell
      obtain ⟨t0, fr, f2, hsh3, htm3, hfr3, hf23⟩ := h3.sh hs
      have hsh0 := hsh3
      first | refine aw_astore_n (i := 3) (q := 37) dX1_displaces_36 rfl (by decide) rfl ?_ | refine aw_astoreN_n (i := 3) (q := 37) dX1_displaces_36 rfl (by decide) rfl ?_ | refine aw_astoreQ_n (i := 3) (q := 37) dX1_displaces_36 rfl (by decide) rfl ?_
      first | refine aw_aload_n (i := 3) (q := 38) dX1_displaces_37 rfl rfl rfl ?_ | refine aw_aloadN_n (i := 3) (q := 38) dX1_displaces_37 rfl rfl rfl ?_ | refine aw_aloadQ_n (i := 3) (q := 38) dX1_displaces_37 rfl rfl rfl ?_
      refine aw_z ?_
      refine aw_callV (q := 41) dX1_displaces_38 (C_Opt_isPresentN q3) cv_X1_255_18 (by assumption) rfl rfl (by decide) (by decide) (by first | exact Nat.le_of_ble_eq_true rfl | simp [zcat_rf, Value.category]) rfl (zpk ?_)
      refine aw_if_eq (tgt := 59) (q := 44) dX1_displaces_41 (by decide) rfl (fun _ => ?_) (fun hZ => absurd (rfl) hZ)
      first | refine aw_aload_n (i := 0) (q := 60) dX1_displaces_59 rfl rfl rfl ?_ | refine aw_aloadN_n (i := 0) (q := 60) dX1_displaces_59 rfl rfl rfl ?_ | refine aw_aloadQ_n (i := 0) (q := 60) dX1_displaces_59 rfl rfl rfl ?_
      refine aw_getfield (q := 63) dX1_displaces_60 gf_X1_25_1 (by assumption) rfl rfl ?_
      refine aw_iload_n (i := 2) (q := 64) dX1_displaces_63 rfl rfl rfl ?_
      refine aw_z ?_
      refine aw_callF (q := 69) dX1_displaces_64 (C_AL_get hL3 hs (by omega)) cf_X1_115_14 (by assumption) rfl rfl (by decide) (by decide) (by first | exact Nat.le_of_ble_eq_true rfl | simp [zcat_rf, Value.category]) rfl (zpk ?_)
      refine aw_cast (q := 72) dX1_displaces_69 q535 hsh3 ca_5_X5 rfl ?_
      refine aw_iconst (v := 4) (q := 73) dX1_displaces_72 rfl rfl ?_
      refine aw_putfield (q := 76) dX1_displaces_73 gf_X1_263_5 hsh3 (by first | assumption | simp) (by first | rfl | exact znar_rf _ _ | exact zB_nar _) (by first | rfl | exact zfit_rf _ _ | exact zB_fit _) (Nat.le_of_ble_eq_true rfl) rfl (fun μ4 hg_μ4 => ?_)
      have hsh3 : μ4 _ = some _ := hg_μ4 ▸ updM_eq _ _ _
      simp only [List.set] at hsh3 hg_μ4
      obtain ⟨r1, r2⟩ := h3.sset (i := s) (j0 := 3) (v := 4) hO hs hsh0 htm3 hfr3 hf23 hg_μ4 (updP_ne (by omega)) ⟨by decide, by decide⟩ (updP_eq _ _ _ _ _) (updP_ne (by omega)) (updP_ne (by omega)) (updP_ne (by omega))
      have hp4 := r1.1
      have ec : pcn (updP P 3 s 3 4) 10 = pcn P 10 := pcn_upd (by omega)
      refine AW.bud (bc' := 0 + (pcn (updP P 3 s 3 4) 10 + 1)) (bs' := 0 + (4 * pcn (updP P 3 s 3 4) 10 + 4)) ?_ (by omega) (by omega)
      first | refine aw_aload_n (i := 0) (q := 77) dX1_displaces_76 rfl rfl rfl ?_ | refine aw_aloadN_n (i := 0) (q := 77) dX1_displaces_76 rfl rfl rfl ?_ | refine aw_aloadQ_n (i := 0) (q := 77) dX1_displaces_76 rfl rfl rfl ?_
      refine aw_iload_n (i := 2) (q := 78) dX1_displaces_77 rfl rfl rfl ?_
      refine aw_iconst (v := 2) (q := 79) dX1_displaces_78 rfl rfl ?_
      refine aw_iconst (v := 0) (q := 80) dX1_displaces_79 rfl rfl ?_
      refine aw_callV (q := 83) dX1_displaces_80 (C_losesAll (s := s) (w := 2) (bd := false) r1 (hO.upd (Or.inl (by decide))) (hB.upd2 (by decide) (fun e => absurd e (by decide))) (by rw [pcn_upd (by omega)]; exact hs) (by decide)) cv_X1_234_1 (by assumption) rfl rfl (by decide) (by decide) (by first | exact Nat.le_of_ble_eq_true rfl | simp [zcat_rf, Value.category]) rfl (fun v80 μ5 hp => ?_)
      obtain ⟨rfl, h5, k5⟩ := hp
      rw [ec, ← tDisp_out (D := tZ) hg] at h5
      have eo : ∀ x j, ¬ (x = s ∧ j = 3) → (tDisplace P tZ s).1 3 x j = P 3 x j := fun x j hx => by
        rw [tDisp_out hg, tLosN_same _ 3 x j (by omega), updP_ne (by omega)]
      have es3 : (tDisplace P tZ s).1 3 s 3 = 4 := by
        rw [tDisp_out hg, tLosN_same _ 3 s 3 (by omega), updP_eq]
      have e9 : pcn (tDisplace P tZ s).1 9 = pcn P 9 := by
        rw [tDisp_out hg, (tLosN_same _).cn, pcn_upd (by omega)]
      have hout : zPlq (tDisplace P tZ s).1 (zPlan (tDisplace P tZ s).1) (zDel t ks) val := hdel.congr e9 (fun x hx => ⟨⟨fun z => ?_, fun z => ?_⟩, fun _ => ⟨eo x 1 (by omega), eo x 2 (by omega)⟩⟩)
      · exact aw_return dX1_displaces_83 rfl (⟨rfl, h5, ⟨_, _, zHM.ko m13 (r2.tr k5) (by omega) (by omega), hout⟩, zHM.ko m23 (r2.tr k5) (by omega) (by omega), k03.tr (r2.tr k5).ko⟩)
      · have z : (tDisplace P tZ s).1 3 x 3 = 0 := z
        have hxs : x ≠ s := fun e => by rw [e, es3] at z; exact absurd z (by decide)
        rw [eo x 3 (by omega)] at z
        exact ⟨z, hxs⟩
      · show (tDisplace P tZ s).1 3 x 3 = 0
        have hxs : x ≠ s := z.2
        rw [eo x 3 (by omega)]
        exact z.1
    · have q1 : ¬ t / 6 + mv < y / 6 := fun z => q1 ((hlt y (by rw [hy2]; split <;> omega)).mpr z)
      have hgo : u / 6 ≤ t / 6 + mv := Classical.byContradiction (fun z => q1 (by rw [hy2, if_neg z]; omega))
      have hyu : y = u := by rw [hy2, if_pos hgo]
      subst hyu
      have hg : tGoes P s = true := decide_eq_true (fun z => by rw [hu, e1, hmv, elast] at z; have := (hlt y (by omega)).mp z; omega)
      have hfy := (hF y (by omega) (by omega)).mp u3
      first | refine aw_astore_n (i := 3) (q := 37) dX1_displaces_36 rfl (by decide) rfl ?_ | refine aw_astoreN_n (i := 3) (q := 37) dX1_displaces_36 rfl (by decide) rfl ?_ | refine aw_astoreQ_n (i := 3) (q := 37) dX1_displaces_36 rfl (by decide) rfl ?_
      first | refine aw_aload_n (i := 3) (q := 38) dX1_displaces_37 rfl rfl rfl ?_ | refine aw_aloadN_n (i := 3) (q := 38) dX1_displaces_37 rfl rfl rfl ?_ | refine aw_aloadQ_n (i := 3) (q := 38) dX1_displaces_37 rfl rfl rfl ?_
      refine aw_z ?_
      refine aw_callV (q := 41) dX1_displaces_38 (C_Opt_isPresent q3) cv_X1_255_18 (by assumption) rfl rfl (by decide) (by decide) (by first | exact Nat.le_of_ble_eq_true rfl | simp [zcat_rf, Value.category]) rfl (zpk ?_)
      refine aw_if_eq (tgt := 59) (q := 44) dX1_displaces_41 (by decide) rfl (fun hZ => absurd hZ ((by decide))) (fun _ => ?_)
      first | refine aw_aload_n (i := 0) (q := 45) dX1_displaces_44 rfl rfl rfl ?_ | refine aw_aloadN_n (i := 0) (q := 45) dX1_displaces_44 rfl rfl rfl ?_ | refine aw_aloadQ_n (i := 0) (q := 45) dX1_displaces_44 rfl rfl rfl ?_
      refine aw_iload_n (i := 2) (q := 46) dX1_displaces_45 rfl rfl rfl ?_
      first | refine aw_aload_n (i := 3) (q := 47) dX1_displaces_46 rfl rfl rfl ?_ | refine aw_aloadN_n (i := 3) (q := 47) dX1_displaces_46 rfl rfl rfl ?_ | refine aw_aloadQ_n (i := 3) (q := 47) dX1_displaces_46 rfl rfl rfl ?_
      refine aw_z ?_
      refine aw_callV (q := 50) dX1_displaces_47 (C_Opt_get q3) cv_X1_258_18 (by assumption) rfl rfl (by decide) (by decide) (by first | exact Nat.le_of_ble_eq_true rfl | simp [zcat_rf, Value.category]) rfl (zpk ?_)
      refine aw_cast (q := 53) dX1_displaces_50 q1374 q4 ca_8_X8 rfl ?_
      refine AW.bud (bc' := 0 + (2 * pcn P 10 + 1134)) (bs' := 0 + (8 * pcn P 10 + 6558)) ?_ (by omega) (by omega)
      refine aw_callV (q := 56) dX1_displaces_53 (C_moves (t := y) (w := w) h3 m13 hdel m23 hO hB hs h0 q4 (by omega) hfy.1 (by omega) (fun x hx z => hw x hx z.1) (by omega) (by omega)) cv_X1_260_1 (by assumption) rfl rfl (by decide) (by decide) (by first | exact Nat.le_of_ble_eq_true rfl | simp [zcat_rf, Value.category]) rfl (fun v53 μ4 hp => ?_)
      obtain ⟨rfl, h4, g4, g5, k4⟩ := hp
      rw [← tDisp_goes (D := tZ) hbd hu hg] at h4 g4
      refine aw_goto (tgt := 83) dX1_displaces_56 (by decide) ?_
      exact aw_return dX1_displaces_83 rfl (⟨rfl, h4, g4, g5, k03.tr k4⟩)
  · rw [hy]
    by_cases z : u / 6 ≤ t / 6 + mv
    · rw [if_pos z] at hy2
      rw [hy2]
      exact Or.inl ((hF u (by omega) (by omega)).mp u3)
    · rw [if_neg z] at hy2
      exact Or.inr ((hlt y (by omega)).mpr (by omega))
  · rw [hy]
    intro x x1 x2
    have hx : x < u ∧ x / 6 ≤ t / 6 + mv := by
      by_cases z : u / 6 ≤ t / 6 + mv
      · rw [if_pos z] at hy2
        omega
      · rw [if_neg z] at hy2
        omega
    exact ⟨fun q => u4 x x1 hx.1 ((hF x x1 (by omega)).mpr q), fun q => by have := (hlt x (by omega)).mp q; omega⟩
end ZPS1
