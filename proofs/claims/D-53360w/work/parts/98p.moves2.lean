/-! THE PROGRAMME: moves -/
set_option maxRecDepth 100000
section ZPR1
variable {G : zG} {μ μ' : zM} {p o : Nat} {P : zP} {A : Nat → Nat → Nat} {c : Nat → Int32}
theorem zTm_ls {s a t : Nat} (h : zTim μ a t) (hk : zKp (zTg (lsT s o) (laT s o)) μ μ') : zTim μ' a t := zTm_ko h (zTg.ko hk)
theorem zTm_mt {R a t : Nat} (h : zTim μ a t) (hk : zKp (zMt R o) μ μ') (hR : 1 ≤ R) : zTim μ' a t := hk _ _ _ h (fun q => by have q2 : R ≤ 0 := q.2.1; omega)
/-- the map of what is planned, beside changes of sorts 4 and 6 -/
theorem zPlq.same {Q : zP} {pl : Nat → Prop} {ks : List Nat} {val : Nat → Nat} (hP : zPlq P pl ks val) (h : tSame P Q) : zPlq Q pl ks val := hP.congr (h.cn 9) (fun s _ => ⟨Iff.rfl, fun _ => ⟨h 3 s 1 (by omega), h 3 s 2 (by omega)⟩⟩)
set_option maxHeartbeats 2000000 in
theorem C_moves {a s t w : Nat} {ks ks' : List Nat} {val val' : Nat → Nat} (h : zPR G μ p o P A c) (m1 : zMap1 G μ o A ks val) (hPl : zPlq P (zPlan1 P s) ks val) (m2 : zMap2 G μ o A ks' val') (hO : tOk P) (hB : tBkOk P) (hs : s < pcn P 9) (h0 : P 3 s 3 = 0) (ha : zTim μ a t) (ht : t < 8192) (htk : t ∉ ks) (hlen : ks.length < pcn P 9) (hw : zWd P (zPlan1 P s) w) (w1 : w ≤ t) (w2 : t < w + 512) : Meets G 10 MX1_moves [.ref p, .int (nI s), .ref a] μ (zMvP G μ p o P A c ks' val' s t) (2 * pcn P 10 + 1134) (8 * pcn P 10 + 6558) := by
  have hp := h.1
  have s60 : pcn P 9 ≤ 60 := hO.s.2
  have b80 : pcn P 10 ≤ 80 := hO.b.2
  have hLs := h.lsh
  obtain ⟨_, chLs⟩ := hLs.cell
  have hsz : obT 3 s o ≠ zC := obT_nz
  obtain ⟨t0, fr, f2, hsh, htm, hfr, hf2⟩ := h.sh hs
  obtain ⟨N, hN⟩ : ∃ N, pcn P 10 = N := ⟨_, rfl⟩
  obtain ⟨N4, hN4⟩ : ∃ N4, 4 * N = N4 := ⟨_, rfl⟩
  obtain ⟨bp, hbp⟩ : ∃ x : Nat, x = 1132 := ⟨_, rfl⟩
  obtain ⟨sp, hsp⟩ : ∃ x : Nat, x = 6550 := ⟨_, rfl⟩
  obtain ⟨L, hL⟩ : ∃ L, tLosN P s 2 true N = L := ⟨_, rfl⟩
  obtain ⟨d0, hd0⟩ : ∃ d0, P 3 s 1 = d0 := ⟨_, rfl⟩
  have sL : tSame P L := hL ▸ tLosN_same N
  have sQ : ∀ k, tSame P (tMovN P L s d0 (nI (t / 6)) k) := fun k => sL.tr (tMovN_same k)
  -- the end
  have fin : ∀ (μ3 : zM) (it : Nat), zPR G μ3 p o (tMovN P L s d0 (nI (t / 6)) N) A c → zKp (zKo o) μ μ3 → zTim μ3 a t → AW G 10 MX1_moves (zMvP G μ p o P A c ks' val' s t) bp sp 164 [(0, .ref p), (1, .int (nI s)), (2, .ref a), (3, .ref (A 3 s)), (4, .ref it)] [] μ3 := by
    intro μ3 it h3 hk3 ha3
    have hO3 := (sQ N).ok hO
    have ec := (sQ N).cn
    obtain ⟨t0, fr, f2, hsh3, htm3, hfr3, hf23⟩ := h3.sh (i := s) (by rw [ec]; exact hs)
    have hsh0 := hsh3
    have nsa : a ≠ A 3 s := zneq ha3 hsh3 (by simp)
    first | refine aw_aload_n (i := 3) (q := 165) dX1_moves_164 rfl rfl rfl ?_ | refine aw_aloadN_n (i := 3) (q := 165) dX1_moves_164 rfl rfl rfl ?_ | refine aw_aloadQ_n (i := 3) (q := 165) dX1_moves_164 rfl rfl rfl ?_
    first | refine aw_aload_n (i := 2) (q := 166) dX1_moves_165 rfl rfl rfl ?_ | refine aw_aloadN_n (i := 2) (q := 166) dX1_moves_165 rfl rfl rfl ?_ | refine aw_aloadQ_n (i := 2) (q := 166) dX1_moves_165 rfl rfl rfl ?_
    refine aw_putfield (q := 169) dX1_moves_166 gf_X1_202_5 hsh3 (by first | assumption | simp) (by first | rfl | exact znar_rf _ _ | exact zB_nar _) (by first | rfl | exact zfit_rf _ _ | exact zB_fit _) (Nat.le_of_ble_eq_true rfl) rfl (fun μ4 hg_μ4 => ?_)
    have ha3 : μ4 _ = some _ := hg_μ4 ▸ (updM_ne nsa).trans ha3
    have hsh3 : μ4 _ = some _ := hg_μ4 ▸ updM_eq _ _ _
    simp only [List.set] at hsh3 hg_μ4
    first | refine aw_aload_n (i := 3) (q := 170) dX1_moves_169 rfl rfl rfl ?_ | refine aw_aloadN_n (i := 3) (q := 170) dX1_moves_169 rfl rfl rfl ?_ | refine aw_aloadQ_n (i := 3) (q := 170) dX1_moves_169 rfl rfl rfl ?_
    refine aw_dup (q := 171) dX1_moves_170 (by first | rfl | exact zcat_rf _) rfl ?_
    refine aw_getfield (q := 174) dX1_moves_171 gf_X1_241_5 (by assumption) rfl rfl ?_
    refine aw_iconst (v := 1) (q := 175) dX1_moves_174 rfl rfl ?_
    refine aw_iadd (q := 176) dX1_moves_175 rfl ?_
    refine aw_putfield (q := 179) dX1_moves_176 gf_X1_241_5 hsh3 (by first | assumption | simp) (by first | rfl | exact znar_rf _ _ | exact zB_nar _) (by first | rfl | exact zfit_rf _ _ | exact zB_fit _) (Nat.le_of_ble_eq_true rfl) rfl (fun μ5 hg_μ5 => ?_)
    have ha3 : μ5 _ = some _ := hg_μ5 ▸ (updM_ne nsa).trans ha3
    have hsh3 : μ5 _ = some _ := hg_μ5 ▸ updM_eq _ _ _
    simp only [List.set] at hsh3 hg_μ5
    obtain ⟨r1, r2⟩ := h3.mvd (μ' := μ5) (i := s) hO3 (by rw [ec]; exact hs) hsh0 hfr3 hf23 (hk3 _ _ _ ha (fun q => by have q2 : 20000 ≤ 0 := q.2; omega)) (by rw [hg_μ5, hg_μ4, updM_twice])
    have hp5 := r1.1
    have m15 : zMap1 G μ5 o A ks val := zHM.ko m1 (hk3.tr r2) (by omega) (by omega)
    have m25 : zMap2 G μ5 o A ks' val' := zHM.ko m2 (hk3.tr r2) (by omega) (by omega)
    obtain ⟨f5, c5⟩ := zHM.cell m15
    obtain ⟨k0, hk08, hmk⟩ := zHM.rank m15
    obtain ⟨k1, g1, g2, hput⟩ := C_HM_put (w := s) hmk (by omega) htk ht ha3 (hw.win hPl w1 w2) (by omega)
    first | refine aw_aload_n (i := 0) (q := 180) dX1_moves_179 rfl rfl rfl ?_ | refine aw_aloadN_n (i := 0) (q := 180) dX1_moves_179 rfl rfl rfl ?_ | refine aw_aloadQ_n (i := 0) (q := 180) dX1_moves_179 rfl rfl rfl ?_
    refine aw_getfield (q := 183) dX1_moves_180 gf_X1_37_1 (by assumption) rfl rfl ?_
    first | refine aw_aload_n (i := 2) (q := 184) dX1_moves_183 rfl rfl rfl ?_ | refine aw_aloadN_n (i := 2) (q := 184) dX1_moves_183 rfl rfl rfl ?_ | refine aw_aloadQ_n (i := 2) (q := 184) dX1_moves_183 rfl rfl rfl ?_
    refine aw_iload_n (i := 1) (q := 185) dX1_moves_184 rfl rfl rfl ?_
    refine aw_z ?_
    refine aw_callS (q := 188) dX1_moves_185 (C_valueOf (k := s) (by omega)) cs_X1_224 rfl rfl (by decide) (by decide) (by first | exact Nat.le_of_ble_eq_true rfl | simp [zcat_rf, Value.category]) rfl (zpk ?_)
    refine AW.bud (bc' := 0 + (12 + 140 * (k1 - k0))) (bs' := 0 + (150 + 800 * (k1 - k0))) ?_ (by omega) (by omega)
    refine aw_callF (q := 193) dX1_moves_188 (hput) cf_X1_230_19 (by assumption) rfl rfl (by decide) (by decide) (by first | exact Nat.le_of_ble_eq_true rfl | simp [zcat_rf, Value.category]) rfl (fun v188 μ6 hp => ?_)
    obtain ⟨rfl, m6, k6⟩ := hp
    refine aw_pop (q := 194) dX1_moves_193 (by first | rfl | exact zcat_rf _) rfl ?_
    have hout : zPlq (tMvd (tMovN P L s d0 (nI (t / 6)) N) s t) (zPlan (tMvd (tMovN P L s d0 (nI (t / 6)) N) s t)) (t :: ks) (upN val t s) := by
      have e9 : pcn (tMvd (tMovN P L s d0 (nI (t / 6)) N) s t) 9 = pcn P 9 := by
        rw [← ec 9]; unfold pcn; rw [tMvd_o (by omega)]
      have e3 : tMvd (tMovN P L s d0 (nI (t / 6)) N) s t 3 s 3 = 0 := by
        rw [tMvd_o (by omega), sQ N 3 s 3 (by omega)]; exact h0
      have eo : ∀ x j, x ≠ s → tMvd (tMovN P L s d0 (nI (t / 6)) N) s t 3 x j = P 3 x j := fun x j hx => by
        rw [tMvd_o (by omega), sQ N 3 x j (by omega)]
      refine hPl.ins htk ht (by omega) (by omega) (by omega) e3 tMvd_1.1 tMvd_1.2.1 (fun x hx hxs => ⟨fun z => ⟨by omega, ?_⟩, fun z1 z2 => ⟨?_, eo x 1 hxs, eo x 2 hxs⟩⟩) (fun _ z => z.2 rfl)
      · have z : tMvd (tMovN P L s d0 (nI (t / 6)) N) s t 3 x 3 = 0 := z
        rw [eo x 3 hxs] at z
        exact ⟨z, hxs⟩
      · show tMvd (tMovN P L s d0 (nI (t / 6)) N) s t 3 x 3 = 0
        rw [eo x 3 hxs]
        exact z2.1
    have hz : zMvP G μ p o P A c ks' val' s t none μ6 := by
      unfold zMvP
      rw [hN, hL, hd0]
      exact ⟨rfl, r1.mp k6 (by omega) (by omega), ⟨_, _, m6.hm, hout⟩, zHM.mo m25 k6 (by omega) (by omega), ((hk3.tr r2).ko).tr k6.mt⟩
    exact aw_return dX1_moves_194 rfl (hz)
  -- the bookings
  have loop : ∀ (μb : zM), zKp (zKo o) μ μb → ∀ (rem k : Nat) (lr : Int32) (μ2 : zM) (it : Nat), μb it = none → k + rem = N → zPR G μ2 p o (tMovN P L s d0 (nI (t / 6)) k) A c → zKp (zKo o) μb μ2 → zTim μ2 a t → μ2 it = some (zTI, oItr k lr (c 4) (A 7 4)) → ∀ bc bs, bp + rem ≤ bc → sp + 4 * rem ≤ bs → AW G 10 MX1_moves (zMvP G μ p o P A c ks' val' s t) bc bs 32 [(0, .ref p), (1, .int (nI s)), (2, .ref a), (3, .ref (A 3 s)), (4, .ref it)] [] μ2 := by
    intro μb hkb rem
    induction rem with
    | zero =>
      intro k lr μ2 it hitn hk h2 hkp ha2 hi bc bs hbc hbs
      have ek : k = N := by omega
      have hL2 := h2.lbk
      obtain ⟨_, chL2⟩ := hL2.cell
      rw [(sQ k).cn, hN] at hL2
      first | refine aw_aload (q := 34) dX1_moves_32 rfl rfl ?_ | refine aw_aloadN (q := 34) dX1_moves_32 rfl rfl ?_ | refine aw_aloadQ (q := 34) dX1_moves_32 rfl rfl ?_
      refine aw_z ?_
      refine aw_callF (q := 39) dX1_moves_34 (C_Itr_hasNext hL2 hi) cf_X1_56_11 (by assumption) rfl rfl (by decide) (by decide) (by first | exact Nat.le_of_ble_eq_true rfl | simp [zcat_rf, Value.category]) rfl (zpk ?_)
      refine aw_if_eq (tgt := 164) (q := 42) dX1_moves_39 (by decide) rfl (fun _ => ?_) (fun hZ => absurd ((zB_f (fun q => q (by rw [ek])))) hZ)
      refine AW.bud (bc' := bp) (bs' := sp) ?_ (by omega) (by omega)
      exact AW.bud (aw_locals (by exact ⟨rfl, rfl, rfl, rfl, rfl, trivial⟩) (fin μ2 it (by rw [ek] at h2; exact h2) (hkb.tr hkp) ha2)) (by omega) (by omega)
    | succ rem ih =>
      intro k lr μ2 it hitn hk h2 hkp ha2 hi bc bs hbc hbs
      have hkn : k < N := by omega
      have hL2 := h2.lbk
      obtain ⟨_, chL2⟩ := hL2.cell
      rw [(sQ k).cn, hN] at hL2
      first | refine aw_aload (q := 34) dX1_moves_32 rfl rfl ?_ | refine aw_aloadN (q := 34) dX1_moves_32 rfl rfl ?_ | refine aw_aloadQ (q := 34) dX1_moves_32 rfl rfl ?_
      refine aw_z ?_
      refine aw_callF (q := 39) dX1_moves_34 (C_Itr_hasNext hL2 hi) cf_X1_56_11 (by assumption) rfl rfl (by decide) (by decide) (by first | exact Nat.le_of_ble_eq_true rfl | simp [zcat_rf, Value.category]) rfl (zpk ?_)
      refine aw_if_eq (tgt := 164) (q := 42) dX1_moves_39 (by decide) rfl (fun hZ => absurd hZ (zHn hkn (by omega))) (fun _ => ?_)
      first | refine aw_aload (q := 44) dX1_moves_42 rfl rfl ?_ | refine aw_aloadN (q := 44) dX1_moves_42 rfl rfl ?_ | refine aw_aloadQ (q := 44) dX1_moves_42 rfl rfl ?_
      refine aw_z ?_
      refine aw_callF (q := 49) dX1_moves_44 (C_Itr_next hL2 hi hkn zTI_nz zTI_ls zTI_la) cf_X1_62_11 (by assumption) rfl rfl (by decide) (by decide) (by first | exact Nat.le_of_ble_eq_true rfl | simp [zcat_rf, Value.category]) rfl (fun v44 μ3 hp => ?_)
      obtain ⟨rfl, hg3⟩ := hp
      have h3 := h2.ti hi hg3
      have hkp3 : zKp (zKo o) μb μ3 := hg3 ▸ hkp.it hitn
      have hi3 : μ3 it = _ := hg3 ▸ updM_eq _ _ _
      have ha3 : zTim μ3 a t := hg3 ▸ (updM_ne (zneq ha2 hi (by simp))).trans ha2
      have hp3 := h3.1
      obtain ⟨r, f, hob, -, -⟩ := h3.bk (i := k) (by rw [(sQ k).cn]; omega)
      have eb0 : tMovN P L s d0 (nI (t / 6)) k 4 k 0 = P 4 k 0 := sQ k 4 k 0 (by omega)
      have eb4 : tMovN P L s d0 (nI (t / 6)) k 4 k 4 = if k < N ∧ P 4 k 0 = nI s ∧ P 4 k 4 = 0 ∧ (true = true → P 4 k 3 ≠ 0) then 4 else P 4 k 4 := by
        rw [tMovN_bk, ← hL]; exact tLosN_st N
      have skip : ¬ (P 4 k 0 = nI s ∧ P 4 k 4 = 0 ∧ P 4 k 3 = 0) → AW G 10 MX1_moves (zMvP G μ p o P A c ks' val' s t) bc bs 161 [(0, .ref p), (1, .int (nI s)), (2, .ref a), (3, .ref (A 3 s)), (4, .ref it)] [] μ3 := by
        intro hn
        refine aw_goto (tgt := 32) dX1_moves_161 (by decide) ?_
        exact AW.bud (aw_locals (by exact ⟨rfl, rfl, rfl, rfl, rfl, trivial⟩) (ih (k + 1) _ μ3 it hitn (by omega) (by rw [tMovN_n hn]; exact h3) hkp3 ha3 hi3 bc bs (by omega) (by omega))) (by omega) (by omega)
      refine aw_cast (q := 52) dX1_moves_49 q583 hob ca_6_X6 rfl ?_
      first | refine aw_astore (q := 54) dX1_moves_52 (by decide) rfl ?_ | refine aw_astoreN (q := 54) dX1_moves_52 (by decide) rfl ?_ | refine aw_astoreQ (q := 54) dX1_moves_52 (by decide) rfl ?_
      try simp (config := {decide := true}) only [zput, zdel_q, zdel_f, zdel_t, zdel_nil, zdel_r, zdel_i, zdel_n]
      first | refine aw_aload (q := 56) dX1_moves_54 rfl rfl ?_ | refine aw_aloadN (q := 56) dX1_moves_54 rfl rfl ?_ | refine aw_aloadQ (q := 56) dX1_moves_54 rfl rfl ?_
      refine aw_getfield (q := 59) dX1_moves_56 gf_X1_155_6 (by assumption) rfl rfl ?_
      refine aw_iload_n (i := 1) (q := 60) dX1_moves_59 rfl rfl rfl ?_
      refine aw_icmp_ne (tgt := 161) (q := 63) dX1_moves_60 (by decide) rfl (fun c1 => ?_) (fun c1 => ?_)
      · skip
        refine aw_locals (by exact ⟨rfl, rfl, rfl, rfl, rfl, trivial⟩) (skip (fun q => c1 (by rw [eb0]; exact q.1)))
      · first | refine aw_aload (q := 65) dX1_moves_63 rfl rfl ?_ | refine aw_aloadN (q := 65) dX1_moves_63 rfl rfl ?_ | refine aw_aloadQ (q := 65) dX1_moves_63 rfl rfl ?_
        refine aw_getfield (q := 68) dX1_moves_65 gf_X1_176_6 (by assumption) rfl rfl ?_
        refine aw_if_ne (tgt := 161) (q := 71) dX1_moves_68 (by decide) rfl (fun c2 => ?_) (fun c2 => ?_)
        · skip
          refine aw_locals (by exact ⟨rfl, rfl, rfl, rfl, rfl, trivial⟩) (skip (fun q => c2 (by rw [eb4, if_neg (fun z => z.2.2.2 rfl q.2.2)]; exact q.2.1)))
        · first | refine aw_aload_n (i := 0) (q := 72) dX1_moves_71 rfl rfl rfl ?_ | refine aw_aloadN_n (i := 0) (q := 72) dX1_moves_71 rfl rfl rfl ?_ | refine aw_aloadQ_n (i := 0) (q := 72) dX1_moves_71 rfl rfl rfl ?_
          refine aw_getfield (q := 75) dX1_moves_72 gf_X1_31_1 (by assumption) rfl rfl ?_
          have q0 : P 4 k 0 = nI s := by rw [← eb0]; exact c1
          have hy : P 4 k 0 = nI s ∧ P 4 k 4 = 0 ∧ P 4 k 3 = 0 := by
            rw [eb4] at c2
            by_cases z : k < N ∧ P 4 k 0 = nI s ∧ P 4 k 4 = 0 ∧ (true = true → P 4 k 3 ≠ 0)
            · rw [if_pos z] at c2
              exact absurd c2 (by decide)
            · rw [if_neg z] at c2
              exact ⟨q0, c2, Classical.byContradiction (fun n => z ⟨hkn, q0, c2, fun _ => n⟩)⟩
          have hsk : tSh P k = s := by
            obtain ⟨b1, b2⟩ := hB k (by omega)
            rw [q0] at b1
            exact ((nI_eq (by omega) (by omega)).mp b1).symm
          have hLp := h3.lpr
          obtain ⟨_, chLp⟩ := hLp.cell
          refine AW.bud (bc' := (bc - 1) + 1) (bs' := (bs - 4) + 4) ?_ (by omega) (by omega)
          refine aw_callF (q := 80) dX1_moves_75 (C_AL_iterator (u := zTI) hLp zTI_nz) cf_X1_50_14 (by assumption) rfl rfl (by decide) (by decide) (by first | exact Nat.le_of_ble_eq_true rfl | simp [zcat_rf, Value.category]) rfl (fun v75 μ4 hp => ?_)
          obtain ⟨it2, rfl, itn2, hg4⟩ := hp
          first | refine aw_astore (q := 82) dX1_moves_80 (by decide) rfl ?_ | refine aw_astoreN (q := 82) dX1_moves_80 (by decide) rfl ?_ | refine aw_astoreQ (q := 82) dX1_moves_80 (by decide) rfl ?_
          try simp (config := {decide := true}) only [zput, zdel_q, zdel_f, zdel_t, zdel_nil, zdel_r, zdel_i, zdel_n]
          have h4 := zF.pr h3 (hg4 ▸ zKp.new itn2)
          have ha4 : zTim μ4 a t := hg4 ▸ (updM_ne (zneN ha3 itn2)).trans ha3
          have hi4 : μ4 it = _ := hg4 ▸ (updM_ne (zneN hi3 itn2)).trans hi3
          have hit4 : μ4 it2 = _ := hg4 ▸ updM_eq _ _ _
          have e00 : tMovedN (tMovN P L s d0 (nI (t / 6)) k) k d0 (nI (t / 6)) 0 = tMovN P L s d0 (nI (t / 6)) k := by funext x y z; exact tMovedN_hi (Nat.zero_le _)
          refine aw_locals (L' := [(0, .ref p), (1, .int (nI s)), (2, .ref a), (3, .ref (A 3 s)), (4, .ref it), (5, .ref (A 4 k)), (6, .ref it2)]) (by exact ⟨rfl, rfl, rfl, rfl, rfl, rfl, rfl, trivial⟩) ?_
          refine mvs_in (Q := tMovN P L s d0 (nI (t / 6)) k) (b := k) (t := t) (d0 := d0) (c := c) (μ0 := μ3) ((sQ k).ok hO) (by rw [(sQ k).cn]; omega) (by rw [(sQ k).sh]; exact hsk) (by rw [(sQ k).cn]; exact hs) ((sQ k 3 s 1 (by omega)).trans hd0) (bc - 1) (bs - 4) itn2 (fun μ5 g1 g2 g3 => ?_) (pcn (tMovN P L s d0 (nI (t / 6)) k) 12) 0 (-1) μ4 (by omega) (by rw [e00]; exact h4) (hg4 ▸ zKp.new itn2) ha4 hit4
          exact ih (k + 1) _ μ5 it hitn (by omega) (by rw [tMovN_p hy]; exact g1) (hkp3.tr g2) g3 (g2 _ _ _ hi3 (fun q => by have q2 : 20000 ≤ 0 := q.2; omega)) (bc - 1) (bs - 4) (by omega) (by omega)
  refine meets_of (by decide +kernel) (Nat.le_of_ble_eq_true rfl) ?_
  refine AW.bud (bc' := ((bp + N) + 1) + (pcn P 10 + 1)) (bs' := ((sp + N4) + 4) + (4 * pcn P 10 + 4)) ?_ (by omega) (by omega)
  first | refine aw_aload_n (i := 0) (q := 1) dX1_moves_0 rfl rfl rfl ?_ | refine aw_aloadN_n (i := 0) (q := 1) dX1_moves_0 rfl rfl rfl ?_ | refine aw_aloadQ_n (i := 0) (q := 1) dX1_moves_0 rfl rfl rfl ?_
  refine aw_getfield (q := 4) dX1_moves_1 gf_X1_25_1 (by assumption) rfl rfl ?_
  refine aw_iload_n (i := 1) (q := 5) dX1_moves_4 rfl rfl rfl ?_
  refine aw_z ?_
  refine aw_callF (q := 10) dX1_moves_5 (C_AL_get hLs hs (by omega)) cf_X1_115_14 (by assumption) rfl rfl (by decide) (by decide) (by first | exact Nat.le_of_ble_eq_true rfl | simp [zcat_rf, Value.category]) rfl (zpk ?_)
  refine aw_cast (q := 13) dX1_moves_10 q535 hsh ca_5_X5 rfl ?_
  first | refine aw_astore_n (i := 3) (q := 14) dX1_moves_13 rfl (by decide) rfl ?_ | refine aw_astoreN_n (i := 3) (q := 14) dX1_moves_13 rfl (by decide) rfl ?_ | refine aw_astoreQ_n (i := 3) (q := 14) dX1_moves_13 rfl (by decide) rfl ?_
  first | refine aw_aload_n (i := 0) (q := 15) dX1_moves_14 rfl rfl rfl ?_ | refine aw_aloadN_n (i := 0) (q := 15) dX1_moves_14 rfl rfl rfl ?_ | refine aw_aloadQ_n (i := 0) (q := 15) dX1_moves_14 rfl rfl rfl ?_
  refine aw_iload_n (i := 1) (q := 16) dX1_moves_15 rfl rfl rfl ?_
  refine aw_iconst (v := 2) (q := 17) dX1_moves_16 rfl rfl ?_
  refine aw_iconst (v := 1) (q := 18) dX1_moves_17 rfl rfl ?_
  refine aw_callV (q := 21) dX1_moves_18 (C_losesAll (s := s) (w := 2) (bd := true) h hO hB hs (by decide)) cv_X1_234_1 (by assumption) rfl rfl (by decide) (by decide) (by first | exact Nat.le_of_ble_eq_true rfl | simp [zcat_rf, Value.category]) rfl (fun v18 μ1 hp => ?_)
  obtain ⟨rfl, h1, k1⟩ := hp
  rw [hN, hL] at h1
  have hp1 := h1.1
  have hL1 := h1.lbk
  obtain ⟨_, chL1⟩ := hL1.cell
  first | refine aw_aload_n (i := 0) (q := 22) dX1_moves_21 rfl rfl rfl ?_ | refine aw_aloadN_n (i := 0) (q := 22) dX1_moves_21 rfl rfl rfl ?_ | refine aw_aloadQ_n (i := 0) (q := 22) dX1_moves_21 rfl rfl rfl ?_
  refine aw_getfield (q := 25) dX1_moves_22 gf_X1_28_1 (by assumption) rfl rfl ?_
  refine aw_callF (q := 30) dX1_moves_25 (C_AL_iterator (u := zTI) hL1 zTI_nz) cf_X1_50_14 (by assumption) rfl rfl (by decide) (by decide) (by first | exact Nat.le_of_ble_eq_true rfl | simp [zcat_rf, Value.category]) rfl (fun v25 μ2 hp => ?_)
  obtain ⟨it, rfl, itn, hg2⟩ := hp
  first | refine aw_astore (q := 32) dX1_moves_30 (by decide) rfl ?_ | refine aw_astoreN (q := 32) dX1_moves_30 (by decide) rfl ?_ | refine aw_astoreQ (q := 32) dX1_moves_30 (by decide) rfl ?_
  try simp (config := {decide := true}) only [zput, zdel_q, zdel_f, zdel_t, zdel_nil, zdel_r, zdel_i, zdel_n]
  exact aw_locals (by exact ⟨rfl, rfl, rfl, rfl, rfl, trivial⟩) (loop μ1 k1 N 0 (-1) μ2 it itn (by omega) (zF.pr h1 (hg2 ▸ zKp.new itn)) (hg2 ▸ zKp.new itn) (hg2 ▸ (updM_ne (zneN (zTm_ko ha k1) itn)).trans (zTm_ko ha k1)) (hg2 ▸ updM_eq _ _ _) _ _ (by omega) (by omega))
end ZPR1
