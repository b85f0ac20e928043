/-! THE PROGRAMME: a show is planned -/
set_option maxRecDepth 100000
theorem ca5O : zCast 5 "java/lang/Object" := ca_5_J29
theorem tFreeInF_none {P : zP} {x : Int32} {r : Nat} : ∀ n, (∀ b, b < n → P 4 b 0 ≠ x) → tFreeInF P x r n = 12
  | 0, _ => rfl
  | n + 1, h => by
    unfold tFreeInF
    rw [tFreeInF_none n (fun b hb => h b (by omega)), if_neg (h n (by omega)), Int32.sub_zero]
section ZPO
variable {G : zG} {μ : zM} {p o : Nat} {P : zP} {A : Nat → Nat → Nat} {c : Nat → Int32}
theorem tShowAdd_o {d sl k : Int32} {s i j : Nat} (h : ¬ (s = 3 ∧ i = pcn P 9) ∧ ¬ (s = 0 ∧ i = 0 ∧ j = 9)) : tShowAdd P d sl k s i j = P s i j := by
  unfold tShowAdd
  rw [updP_ne (by omega), updP_ne (by omega), updP_ne (by omega), updP_ne (by omega), updP_ne (by omega), updP_ne (by omega), updP_ne (by omega), updP_ne (by omega)]
theorem tShowAdd_cn {d sl k : Int32} (hn : pcn P 9 ≤ 60) : pcn (tShowAdd P d sl k) 9 = pcn P 9 + 1 := by
  unfold tShowAdd pcn
  rw [updP_eq]
  exact nI_clamp (by have : pcn P 9 + 1 < 2 ^ 31 := by omega
                     exact this)
theorem tShowAdd_co {d sl k : Int32} {j : Nat} (h : j ≠ 9) : pcn (tShowAdd P d sl k) j = pcn P j := by
  unfold pcn; rw [tShowAdd_o ⟨by omega, by omega⟩]
theorem tShowAdd_n {d sl k : Int32} {j : Nat} (hj : j < 7) : tShowAdd P d sl k 3 (pcn P 9) j = match j with | 0 => k | 1 => d | 2 => sl | 3 => 0 | 4 => -6 | 5 => 0 | _ => 0 := by
  unfold tShowAdd
  rw [updP_ne (by omega)]
  have hj' : j = 0 ∨ j = 1 ∨ j = 2 ∨ j = 3 ∨ j = 4 ∨ j = 5 ∨ j = 6 := by omega
  rcases hj' with rfl | rfl | rfl | rfl | rfl | rfl | rfl
  · rw [updP_ne (by omega), updP_ne (by omega), updP_ne (by omega), updP_ne (by omega), updP_ne (by omega), updP_ne (by omega), updP_eq]; rfl
  · rw [updP_ne (by omega), updP_ne (by omega), updP_ne (by omega), updP_ne (by omega), updP_ne (by omega), updP_eq]; rfl
  · rw [updP_ne (by omega), updP_ne (by omega), updP_ne (by omega), updP_ne (by omega), updP_eq]; rfl
  · rw [updP_ne (by omega), updP_ne (by omega), updP_ne (by omega), updP_eq]; rfl
  · rw [updP_ne (by omega), updP_ne (by omega), updP_eq]; rfl
  · rw [updP_ne (by omega), updP_eq]; rfl
  · rw [updP_eq]; rfl
/-- the planned shows' times lie in a window -/
def zWd (P : zP) (pl : Nat → Prop) (w : Nat) : Prop := ∀ s, s < pcn P 9 → pl s → ∃ h, w ≤ h ∧ h < w + 512 ∧ h < 8192 ∧ P 3 s 1 = nI (h / 6) ∧ P 3 s 2 = nI (h % 6)
theorem zWd.win {pl : Nat → Prop} {w t : Nat} {ks : List Nat} {val : Nat → Nat} (hw : zWd P pl w) (hP : zPlq P pl ks val) (h1 : w ≤ t) (h2 : t < w + 512) : zWin true ks t := by
  intro _
  refine ⟨w, fun x hx => ?_⟩
  rcases hx with hx | rfl
  · obtain ⟨a1, a2, a3, a4, a5⟩ := hP.1 x hx
    obtain ⟨h, b1, b2, b3, b4, b5⟩ := hw _ a1 a2
    have e := zTm_eq (by omega) (by omega) (a3.symm.trans b4) (a4.symm.trans b5)
    omega
  · exact ⟨h1, h2⟩
/-- a key more -/
theorem zPlq.ins {P' : zP} {pl pl' : Nat → Prop} {ks : List Nat} {val : Nat → Nat} {t s : Nat} (hP : zPlq P pl ks val) (ht : t ∉ ks) (h8 : t < 8192) (hc : pcn P 9 ≤ pcn P' 9) (hs : s < pcn P' 9) (hl : ks.length < pcn P' 9) (hpl : pl' s) (e1 : P' 3 s 1 = nI (t / 6)) (e2 : P' 3 s 2 = nI (t % 6)) (ho : ∀ x, x < pcn P' 9 → x ≠ s → (pl' x → x < pcn P 9 ∧ pl x) ∧ (x < pcn P 9 → pl x → pl' x ∧ P' 3 x 1 = P 3 x 1 ∧ P' 3 x 2 = P 3 x 2)) (hn : s < pcn P 9 → ¬ pl s) : zPlq P' pl' (t :: ks) (upN val t s) := by
  obtain ⟨a1, a2, a3, a4⟩ := hP
  refine ⟨fun h hh => ?_, fun x hx hx2 => ?_, List.nodup_cons.mpr ⟨ht, a3⟩, hl⟩
  · rcases List.mem_cons.mp hh with rfl | hh
    · rw [upN_eq]; exact ⟨hs, hpl, e1, e2, h8⟩
    · have hne : h ≠ t := fun e => ht (e ▸ hh)
      rw [upN_ne hne]
      obtain ⟨b1, b2, b3, b4, b5⟩ := a1 h hh
      have hvs : val h ≠ s := fun e => hn (e ▸ b1) (e ▸ b2)
      obtain ⟨c1, c2, c3⟩ := (ho (val h) (by omega) hvs).2 b1 b2
      exact ⟨by omega, c1, c2.trans b3, c3.trans b4, b5⟩
  · by_cases e : x = s
    · subst e; exact ⟨t, List.mem_cons_self, upN_eq⟩
    · obtain ⟨b1, b2⟩ := (ho x hx e).1 hx2
      obtain ⟨h, c1, c2⟩ := a2 x b1 b2
      exact ⟨h, List.mem_cons_of_mem _ c1, (upN_ne (show h ≠ t from fun z => ht (z ▸ c1))).trans c2⟩
theorem zEvq.congr {P' : zP} {ks : List Nat} {val : Nat → Nat} (hE : zEvq P ks val) (hc : pcn P' 11 = pcn P 11) (he : ∀ i j, P' 5 i j = P 5 i j) : zEvq P' ks val := by
  obtain ⟨a1, a2, a3⟩ := hE
  have ec : ∀ e h, zCov P' e h = zCov P e h := fun e h => by unfold zCov; rw [he, he, he]
  refine ⟨fun h hh => ?_, fun e h h1 h2 h3 => ?_, by rw [hc]; exact a3⟩
  · rw [hc, ec]; exact a1 h hh
  · rw [hc] at h1; rw [ec] at h3; exact a2 e h h1 h2 h3
theorem zPlq.congr {P' : zP} {pl pl' : Nat → Prop} {ks : List Nat} {val : Nat → Nat} (hP : zPlq P pl ks val) (hc : pcn P' 9 = pcn P 9) (he : ∀ s, s < pcn P 9 → (pl' s ↔ pl s) ∧ (pl s → P' 3 s 1 = P 3 s 1 ∧ P' 3 s 2 = P 3 s 2)) : zPlq P' pl' ks val := by
  obtain ⟨a1, a2, a3, a4⟩ := hP
  refine ⟨fun h hh => ?_, fun s hs h1 => ?_, a3, by rw [hc]; exact a4⟩
  · obtain ⟨b1, b2, b3, b4, b5⟩ := a1 h hh
    obtain ⟨c1, c2⟩ := he _ b1
    obtain ⟨d1, d2⟩ := c2 b2
    exact ⟨by rw [hc]; exact b1, c1.mpr b2, d1.trans b3, d2.trans b4, b5⟩
  · rw [hc] at hs
    exact a2 s hs ((he s hs).1.mp h1)
/-- a key less -/
theorem zPlq.del {ks : List Nat} {val : Nat → Nat} {t : Nat} (hP : zPlq P (zPlan P) ks val) (ht : t ∈ ks) : zPlq P (zPlan1 P (val t)) (zDel t ks) val := by
  obtain ⟨a1, a2, a3, a4⟩ := hP
  refine ⟨fun h hh => ?_, fun s hs h1 => ?_, zDel_nodup a3, ?_⟩
  · obtain ⟨h1, h2⟩ := (zDel_mem a3).mp hh
    obtain ⟨b1, b2, b3, b4, b5⟩ := a1 h h1
    refine ⟨b1, ⟨b2, fun e => h2 ?_⟩, b3, b4, b5⟩
    obtain ⟨d1, d2, d3, d4, d5⟩ := a1 t ht
    rw [e] at b3 b4
    exact zTm_eq (by omega) (by omega) (b3.symm.trans d3) (b4.symm.trans d4)
  · obtain ⟨h, c1, c2⟩ := a2 s hs h1.1
    exact ⟨h, (zDel_mem a3).mpr ⟨c1, fun e => h1.2 (by rw [← c2, e])⟩, c2⟩
  · have := zDel_len ht
    omega
theorem zlsz {s : Nat} : lsT s o ≠ zC := fun e => by have e1 : 20010 + 2 * s = 0 := congrArg Prod.fst e; omega
theorem zlaz {s : Nat} : laT s o ≠ zC := fun e => by have e1 : 20011 + 2 * s = 0 := congrArg Prod.fst e; omega
theorem zlsa {s s' : Nat} : lsT s o ≠ laT s' o := fun e => by have e1 : 20010 + 2 * s = 20011 + 2 * s' := congrArg Prod.fst e; omega
theorem zTg.ko {s : Nat} {μ μ' : zM} (h : zKp (zTg (lsT s o) (laT s o)) μ μ') : zKp (zKo o) μ μ' := h.mono (fun a u q => by
  rcases q with q | q
  · subst q; exact ⟨rfl, by show 20000 ≤ 20010 + 2 * s; omega⟩
  · subst q; exact ⟨rfl, by show 20000 ≤ 20011 + 2 * s; omega⟩)
theorem zTg.no {s n a : Nat} (h1 : n ≠ 20010 + 2 * s) (h2 : n ≠ 20011 + 2 * s) : ¬ zTg (lsT s o) (laT s o) a (n, o) := fun q => by
  rcases q with q | q
  · exact h1 (congrArg Prod.fst q)
  · exact h2 (congrArg Prod.fst q)
/-- what plan leaves -/
def zPlP (G : zG) (μ : zM) (p o : Nat) (P : zP) (A : Nat → Nat → Nat) (c : Nat → Int32) (k t : Nat) : Option Value → zM → Prop := fun v μ' => v = some (.int (nI (pcn P 9))) ∧ (∃ x, zPR G μ' p o (tShowAdd P (nI (t / 6)) (nI (t % 6)) (nI k)) (zA1 A 3 (pcn P 9) x) (upd c 3 (c 3 + 1)) ∧ zPM G μ' o (tShowAdd P (nI (t / 6)) (nI (t % 6)) (nI k)) (zA1 A 3 (pcn P 9) x)) ∧ zKp (zOw o) μ μ'
set_option maxHeartbeats 2000000 in
theorem C_plan {a k t w : Nat} (h : zPR G μ p o P A c) (hM : zPM G μ o P A) (hO : tOk P) (hB : tBkOk P) (hn : pcn P 9 < 60) (ha : zTim μ a t) (ht : t < 8192) (hfr : tFreeT P t) (hw : zWd P (zPlan P) w) (h1 : w ≤ t) (h2 : t < w + 512) : Meets G 10 MX1_plan [.ref p, .int (nI k), .ref a] μ (zPlP G μ p o P A c k t) 1135 (2 * pcn P 9 + 6575) := by
  obtain ⟨⟨ks, val, m1, hPl⟩, ks', val', m2, hEv⟩ := hM
  have htk : t ∉ ks := ((zFree_iff hO hPl hEv ht).mp hfr).1
  have hp := h.1
  have hLs := h.lsh
  obtain ⟨_, chLs⟩ := hLs.cell
  have hoz : obT 3 (pcn P 9) o ≠ zC := obT_nz
  have haz : oaT 3 (pcn P 9) o ≠ zC := oaT_nz
  obtain ⟨f1, c1⟩ := zHM.cell m1
  obtain ⟨N, hN⟩ : ∃ N, pcn P 9 = N := ⟨_, rfl⟩
  obtain ⟨n2, hn2⟩ : ∃ n2, 2 * pcn P 9 = n2 := ⟨_, rfl⟩
  obtain ⟨pc', hpc⟩ : ∃ x : Nat, x = 1132 := ⟨_, rfl⟩
  obtain ⟨ps', hps⟩ : ∃ x : Nat, x = 6550 := ⟨_, rfl⟩
  refine meets_of (by decide +kernel) (Nat.le_of_ble_eq_true rfl) ?_
  refine AW.bud (bc' := ((pc' + 1) + 1) + 1) (bs' := ((ps' + (2 * pcn P 9 + 10)) + 8) + 7) ?_ (by omega) (by omega)
  first | refine aw_aload_n (i := 0) (q := 1) dX1_plan_0 rfl rfl rfl ?_ | refine aw_aloadN_n (i := 0) (q := 1) dX1_plan_0 rfl rfl rfl ?_ | refine aw_aloadQ_n (i := 0) (q := 1) dX1_plan_0 rfl rfl rfl ?_
  refine aw_getfield (q := 4) dX1_plan_1 gf_X1_25_1 (by assumption) rfl rfl ?_
  first | refine aw_new (q := 7) dX1_plan_4 nw_X1_80 (obT 3 (pcn P 9) o) (by first | assumption | simp) rfl (fun x μ1 hn_x hg_μ1 => ?_) | (refine AW.sub (bc' := 1) (bs' := 7) (by omega) (by omega) ?_; refine aw_new (q := 7) dX1_plan_4 nw_X1_80 (obT 3 (pcn P 9) o) (by first | assumption | simp) rfl (fun x μ1 hn_x hg_μ1 => ?_))
  have chLs : μ1 _ = some _ := hg_μ1 ▸ (updM_ne (zneN chLs hn_x)).trans chLs
  have c1 : μ1 _ = some _ := hg_μ1 ▸ (updM_ne (zneN c1 hn_x)).trans c1
  have h_x : μ1 x = some _ := hg_μ1 ▸ updM_eq _ _ _
  refine AW.bud (bc' := (pc' + 1) + 1) (bs' := (ps' + (2 * pcn P 9 + 10)) + 8) ?_ (by omega) (by omega)
  have hk1 : zKp zF μ μ1 := hg_μ1 ▸ zKp.new hn_x
  refine aw_dup (q := 8) dX1_plan_7 (by first | rfl | exact zcat_rf _) rfl ?_
  refine aw_iload_n (i := 1) (q := 9) dX1_plan_8 rfl rfl rfl ?_
  first | refine aw_aload_n (i := 2) (q := 10) dX1_plan_9 rfl rfl rfl ?_ | refine aw_aloadN_n (i := 2) (q := 10) dX1_plan_9 rfl rfl rfl ?_ | refine aw_aloadQ_n (i := 2) (q := 10) dX1_plan_9 rfl rfl rfl ?_
  refine aw_callI (q := 13) dX1_plan_10 (C_Show_init2 (uf := oaT 3 (pcn P 9) o) h_x hoz haz) ci_X1_221 rfl rfl (by decide) (by decide) (by first | exact Nat.le_of_ble_eq_true rfl | simp [zcat_rf, Value.category]) rfl (fun v10 μ2 hp => ?_)
  obtain ⟨rfl, fr, f', q1, q2, q3, q4, q5⟩ := hp
  have hk2 : zKp zF μ μ2 := fun b u e hb _ => q5 b u e (hk1 b u e hb (fun z => z)) (zneN hb hn_x)
  have hL2 := hLs.kp hk2 (fun _ z => z) (fun _ z => z)
  obtain ⟨_, chL2⟩ := hL2.cell
  have hel : ∀ i, i < pcn P 9 → zOb μ2 (A 3 i) := fun i hi => by
    obtain ⟨ti, ri, fi, hi1, -⟩ := h.sh hi
    exact ⟨_, _, _, hk2 _ _ _ hi1 (fun z => z), ca5O⟩
  refine aw_callF (q := 18) dX1_plan_13 (C_AL_add hL2 ⟨_, _, _, q2, ca5O⟩ zlsz zlaz zlsa (by omega) hel) cf_X1_71_14 (by assumption) rfl rfl (by decide) (by decide) (by first | exact Nat.le_of_ble_eq_true rfl | simp [zcat_rf, Value.category]) rfl (fun v13 μ3 hp => ?_)
  obtain ⟨rfl, hL3, k3⟩ := hp
  obtain ⟨_, chL3⟩ := hL3.cell
  have hk3 : zKp (zTg (lsT 3 o) (laT 3 o)) μ μ3 := hk2.f0.tr k3
  have hp3 : μ3 p = some (pgT 0 o, oPG A c P) := hk3 _ _ _ hp (zTg.no (by omega) (by omega))
  have ec : ∀ s j, ¬ (s = 3 ∧ j = pcn P 9) → s ≠ 0 → ∀ i, tShowAdd P (nI (t / 6)) (nI (t % 6)) (nI k) s j i = P s j i := fun s j n1 n2 i => tShowAdd_o ⟨n1, by omega⟩
  have hdone : zPR G μ3 p o (tShowAdd P (nI (t / 6)) (nI (t % 6)) (nI k)) (zA1 A 3 (pcn P 9) x) (upd c 3 (c 3 + 1)) := by
    refine h.add (s0 := 3) (B := fun _ _ => False) hO (Or.inr (Or.inr (Or.inl rfl))) hk3 (fun b u q => Or.inl q) (fun j hj => tShowAdd_o ⟨by omega, by omega⟩) (tShowAdd_cn (by omega)) hL3 ?_ (fun s i _ _ q => q.elim) ?_
    · refine ⟨a, fr, f', ?_, ?_, k3 _ _ _ q3 (zTg.no (by omega) (by omega)), fun j hj => ?_⟩
      · show μ3 x = some (obT 3 (pcn P 9) o, oSh (tShowAdd P (nI (t / 6)) (nI (t % 6)) (nI k) 3 (pcn P 9) 0) a (tShowAdd P (nI (t / 6)) (nI (t % 6)) (nI k) 3 (pcn P 9) 3) (tShowAdd P (nI (t / 6)) (nI (t % 6)) (nI k) 3 (pcn P 9) 4) (tShowAdd P (nI (t / 6)) (nI (t % 6)) (nI k) 3 (pcn P 9) 5) (tShowAdd P (nI (t / 6)) (nI (t % 6)) (nI k) 3 (pcn P 9) 6) fr)
        rw [tShowAdd_n (by decide), tShowAdd_n (by decide), tShowAdd_n (by decide), tShowAdd_n (by decide), tShowAdd_n (by decide)]
        exact k3 _ _ _ q2 (zTg.no (by omega) (by omega))
      · show μ3 a = some ((0, 0), oTime (tShowAdd P (nI (t / 6)) (nI (t % 6)) (nI k) 3 (pcn P 9) 1) (tShowAdd P (nI (t / 6)) (nI (t % 6)) (nI k) 3 (pcn P 9) 2))
        rw [tShowAdd_n (by decide), tShowAdd_n (by decide)]
        refine hk3 _ _ _ ha ?_
        rintro (q | q)
        · have e1 : 0 = 20010 + 2 * 3 := congrArg Prod.fst q
          omega
        · have e1 : 0 = 20011 + 2 * 3 := congrArg Prod.fst q
          omega
      · rw [q4 j hj]
        show 12 = tFreeIn _ (nI (pcn P 9)) j
        unfold tFreeIn
        rw [tShowAdd_co (by decide)]
        refine (tFreeInF_none _ (fun b hb e => ?_)).symm
        obtain ⟨b1, b2⟩ := hB b hb
        rw [ec 4 b (by omega) (by decide), b1] at e
        have := (nI_eq (by omega) (by omega)).mp e
        omega
    · intro s i hs hi _
      have sl := hs.lt
      refine zSm.of (fun j hj => ec s i (fun z => ?_) (by omega) j) (tShowAdd_o ⟨by omega, by omega⟩) (fun b j => ec 4 b (by omega) (by decide) j)
      obtain ⟨z1, z2⟩ := z
      subst z1
      have hi : i < pcn P 9 := hi
      omega
  have m1c : zMap1 G μ3 o A ks val := zHM.ko (zHM.fr m1 hk2) (zTg.ko k3) (by omega) (by omega)
  have m2c : zMap2 G μ3 o A ks' val' := zHM.ko (zHM.fr m2 hk2) (zTg.ko k3) (by omega) (by omega)
  obtain ⟨f3, c3⟩ := zHM.cell m1c
  obtain ⟨k0, hk08, hmk⟩ := zHM.rank m1c
  have ha3 : zTim μ3 a t := by
    refine hk3 _ _ _ ha ?_
    rintro (q | q)
    · have e1 : 0 = 20010 + 2 * 3 := congrArg Prod.fst q
      omega
    · have e1 : 0 = 20011 + 2 * 3 := congrArg Prod.fst q
      omega
  have hlen := hPl.2.2.2
  obtain ⟨k1, g1, g2, hput⟩ := C_HM_put (w := pcn P 9) hmk (by omega) htk ht ha3 (hw.win hPl h1 h2) (by omega)
  refine aw_pop (q := 19) dX1_plan_18 (by first | rfl | exact zcat_rf _) rfl ?_
  first | refine aw_aload_n (i := 0) (q := 20) dX1_plan_19 rfl rfl rfl ?_ | refine aw_aloadN_n (i := 0) (q := 20) dX1_plan_19 rfl rfl rfl ?_ | refine aw_aloadQ_n (i := 0) (q := 20) dX1_plan_19 rfl rfl rfl ?_
  refine aw_getfield (q := 23) dX1_plan_20 gf_X1_37_1 (by assumption) rfl rfl ?_
  first | refine aw_aload_n (i := 2) (q := 24) dX1_plan_23 rfl rfl rfl ?_ | refine aw_aloadN_n (i := 2) (q := 24) dX1_plan_23 rfl rfl rfl ?_ | refine aw_aloadQ_n (i := 2) (q := 24) dX1_plan_23 rfl rfl rfl ?_
  first | refine aw_aload_n (i := 0) (q := 25) dX1_plan_24 rfl rfl rfl ?_ | refine aw_aloadN_n (i := 0) (q := 25) dX1_plan_24 rfl rfl rfl ?_ | refine aw_aloadQ_n (i := 0) (q := 25) dX1_plan_24 rfl rfl rfl ?_
  refine aw_getfield (q := 28) dX1_plan_25 gf_X1_25_1 (by assumption) rfl rfl ?_
  refine aw_z ?_
  refine aw_callF (q := 33) dX1_plan_28 (C_AL_size hL3) cf_X1_111_14 (by assumption) rfl rfl (by decide) (by decide) (by first | exact Nat.le_of_ble_eq_true rfl | simp [zcat_rf, Value.category]) rfl (zpk ?_)
  refine aw_iconst (v := 1) (q := 34) dX1_plan_33 rfl rfl ?_
  refine aw_isub (q := 35) dX1_plan_34 rfl ?_
  rw [nI_pred]
  refine aw_z ?_
  refine aw_callS (q := 38) dX1_plan_35 (C_valueOf (k := pcn P 9) (by omega)) cs_X1_224 rfl rfl (by decide) (by decide) (by first | exact Nat.le_of_ble_eq_true rfl | simp [zcat_rf, Value.category]) rfl (zpk ?_)
  refine AW.bud (bc' := 0 + (12 + 140 * (k1 - k0))) (bs' := 0 + (150 + 800 * (k1 - k0))) ?_ (by omega) (by omega)
  refine aw_callF (q := 43) dX1_plan_38 (hput) cf_X1_230_19 (by assumption) rfl rfl (by decide) (by decide) (by first | exact Nat.le_of_ble_eq_true rfl | simp [zcat_rf, Value.category]) rfl (fun v38 μ4 hp => ?_)
  obtain ⟨rfl, m4, k4⟩ := hp
  have hL4 := hL3.kp k4 (fun b z => by have z2 : 20010 + 2 * 3 < 3 + 8194 := z.2.2; omega) (fun b z => by have z2 : 20011 + 2 * 3 < 3 + 8194 := z.2.2; omega)
  obtain ⟨_, chL4⟩ := hL4.cell
  have hp4 : μ4 p = some (pgT 0 o, oPG A c P) := k4 _ _ _ hp3 (fun z => by have z2 : 20000 < 3 + 8194 := z.2.2; omega)
  refine aw_pop (q := 44) dX1_plan_43 (by first | rfl | exact zcat_rf _) rfl ?_
  first | refine aw_aload_n (i := 0) (q := 45) dX1_plan_44 rfl rfl rfl ?_ | refine aw_aloadN_n (i := 0) (q := 45) dX1_plan_44 rfl rfl rfl ?_ | refine aw_aloadQ_n (i := 0) (q := 45) dX1_plan_44 rfl rfl rfl ?_
  refine aw_getfield (q := 48) dX1_plan_45 gf_X1_25_1 (by assumption) rfl rfl ?_
  refine aw_z ?_
  refine aw_callF (q := 53) dX1_plan_48 (C_AL_size hL4) cf_X1_111_14 (by assumption) rfl rfl (by decide) (by decide) (by first | exact Nat.le_of_ble_eq_true rfl | simp [zcat_rf, Value.category]) rfl (zpk ?_)
  refine aw_iconst (v := 1) (q := 54) dX1_plan_53 rfl rfl ?_
  refine aw_isub (q := 55) dX1_plan_54 rfl ?_
  rw [nI_pred]
  have A0 : zA1 A 3 (pcn P 9) x 0 = A 0 := if_neg (by omega)
  refine aw_ireturn dX1_plan_55 rfl (by first | rfl | exact zB_nar _) (⟨rfl, ⟨x, hdone.mp k4 (by omega) (by omega), ⟨t :: ks, upN val t (pcn P 9), by unfold zMap1; rw [A0]; exact m4.hm, ?_⟩, ks', val', by unfold zMap2; rw [A0]; exact zHM.mo m2c k4 (by omega) (by omega), hEv.congr (tShowAdd_co (by decide)) (fun i j => ec 5 i (by omega) (by decide) j)⟩, ((hk2.f0.tr (zTg.ko k3)).ko).tr k4.mt⟩)
  have hcn := tShowAdd_cn (d := nI (t / 6)) (sl := nI (t % 6)) (k := nI k) (show pcn P 9 ≤ 60 by omega)
  refine hPl.ins htk ht (by omega) (by omega) (by omega) (tShowAdd_n (by decide)) (tShowAdd_n (by decide)) (tShowAdd_n (by decide)) (fun y hy hys => ⟨fun z => ⟨by omega, ?_⟩, fun z1 z2 => ⟨?_, ec 3 y (by omega) (by decide) 1, ec 3 y (by omega) (by decide) 2⟩⟩) (fun z => by omega)
  · have z : tShowAdd P (nI (t / 6)) (nI (t % 6)) (nI k) 3 y 3 = 0 := z
    rw [ec 3 y (by omega) (by decide)] at z
    exact z
  · show tShowAdd P (nI (t / 6)) (nI (t % 6)) (nI k) 3 y 3 = 0
    rw [ec 3 y (by omega) (by decide)]
    exact z2
end ZPO
