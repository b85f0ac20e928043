/-! THE TWIN, part 17: giveBack, event, promise, pass -/
set_option maxRecDepth 100000
/-- the days' invariant goes on -/
theorem tPass_o {P : zP} {D : Nat → Int32} {s i c : Nat} (h : tOc s c) (h0 : s ≠ 0 ∨ c ≠ 6) (h6 : s ≠ 6 ∨ c ≠ 4) : (tPass P D).1 s i c = P s i c := by
  show tDay (tSlotN P D 6).1 s i c = _
  unfold tDay
  rw [updP_ne (by omega), tPromN_o (by omega)]
  exact tSlotN_o h 6
theorem tPass_inv {P : zP} {D : Nat → Int32} (h : tDI P) : tDI (tPass P D).1 := by
  obtain ⟨h1, h2, h3, h4⟩ := h
  have e : ∀ s i c, tOc s c → (s ≠ 0 ∨ c ≠ 6) → (s ≠ 6 ∨ c ≠ 4) → (tPass P D).1 s i c = P s i c := fun s i c a b d => tPass_o a b d
  have ec : ∀ c, c ≠ 6 → pcn (tPass P D).1 c = pcn P c := fun c hc => by unfold pcn; rw [e 0 0 c (by unfold tOc; omega) (by omega) (by omega)]
  refine ⟨h1.congr (fun c _ _ => e 0 0 c (by unfold tOc; omega) (by omega) (by omega)), h2.congr (fun b => e 4 b 0 (by unfold tOc; omega) (by omega) (by omega)) (ec 9 (by omega)) (ec 10 (by omega)), fun l hl => ?_, fun s hs => ?_⟩
  · rw [ec 8 (by omega)] at hl
    rw [e 2 l 0 (by unfold tOc; omega) (by omega) (by omega)]
    exact h3 l hl
  · rw [ec 9 (by omega)] at hs
    unfold tKd
    rw [e 3 s 0 (by unfold tOc; omega) (by omega) (by omega), ec 7 (by omega)]
    exact h4 s hs
theorem tDays_inv {P : zP} (h : tDI P) : ∀ n, tDI (tDays P n)
  | 0 => h
  | n + 1 => tPass_inv (tDays_inv h n)
section ZTW17
variable {G : zG} {μ : zM} {m : Nat} {lam : Nat → Nat} {K : Nat → Nat → Int32} {P : zP} {R : tR}
theorem C2_giveBack {x : Int32} (hS : zTS G μ m lam K P R) (hI : tPI P) : Meets G 3 MX2_giveBack [.ref m, .int x] μ (tPub G μ m lam K (tGiveC P R x)) 0 0 := by
  have hm := hS.1.m
  obtain ⟨hn, hN⟩ := hS.1.2.2.b
  have hsN := hS.1.2.2.s.2
  refine meets_of (by decide +kernel) (Nat.le_of_ble_eq_true rfl) ?_
  first | refine aw_aload_n (i := 0) (q := 1) dX2_giveBack_0 rfl rfl rfl ?_ | refine aw_aloadN_n (i := 0) (q := 1) dX2_giveBack_0 rfl rfl rfl ?_ | refine aw_aloadQ_n (i := 0) (q := 1) dX2_giveBack_0 rfl rfl rfl ?_
  refine aw_iload_n (i := 1) (q := 2) dX2_giveBack_1 rfl rfl rfl ?_
  refine aw_callV (q := 5) dX2_giveBack_2 (C2_isBooking hS.1) cv_X2_110_2 (by assumption) rfl rfl (by decide) (by decide) (by first | exact Nat.le_of_ble_eq_true rfl | simp [zcat_rf, Value.category]) rfl (zpk ?_)
  refine aw_if_ne (tgt := 10) (q := 8) dX2_giveBack_5 (by decide) rfl (fun ha => ?_) (fun ha => ?_)
  · skip
    obtain ⟨j, hj, rfl⟩ := tIx hn (by omega) (zB_1 ha)
    have e0 : tGiveC P R (nI j) = if P 4 j 4 = 0 then (tVacate (tTally P j 4) j 3 (tBack P j), tRec P R, tBack P j) else (P, R, -5) := by rw [tGiveC, if_pos (zB_1 ha), nI_clamp (by omega)]
    first | refine aw_aload_n (i := 0) (q := 11) dX2_giveBack_10 rfl rfl rfl ?_ | refine aw_aloadN_n (i := 0) (q := 11) dX2_giveBack_10 rfl rfl rfl ?_ | refine aw_aloadQ_n (i := 0) (q := 11) dX2_giveBack_10 rfl rfl rfl ?_
    refine aw_iload_n (i := 1) (q := 12) dX2_giveBack_11 rfl rfl rfl ?_
    refine aw_iconst (v := 4) (q := 13) dX2_giveBack_12 rfl rfl ?_
    refine aw_callV (q := 16) dX2_giveBack_13 (C2_ofBooking (s := j) (c := 4) hS.1 rfl rfl (by omega) (by omega)) cv_X2_88_2 (by assumption) rfl rfl (by decide) (by decide) (by first | exact Nat.le_of_ble_eq_true rfl | simp [zcat_rf, Value.category]) rfl (zpk ?_)
    refine aw_if_eq (tgt := 22) (q := 19) dX2_giveBack_16 (by decide) rfl (fun hb => ?_) (fun hb => ?_)
    · first | refine aw_aload_n (i := 0) (q := 23) dX2_giveBack_22 rfl rfl rfl ?_ | refine aw_aloadN_n (i := 0) (q := 23) dX2_giveBack_22 rfl rfl rfl ?_ | refine aw_aloadQ_n (i := 0) (q := 23) dX2_giveBack_22 rfl rfl rfl ?_
      rw [if_pos hb] at e0
      refine aw_callV (q := 26) dX2_giveBack_23 (C2_record hS) cv_X2_53_2 (by assumption) rfl rfl (by decide) (by decide) (by first | exact Nat.le_of_ble_eq_true rfl | simp [zcat_rf, Value.category]) rfl (fun v23 μ1 hp => ?_)
      obtain ⟨rfl, ⟨K', ⟨hT, hr⟩, e1, hf⟩, hk⟩ := hp
      have hm := hT.m
      have h1 := hT.a1
      obtain ⟨hs, hs2⟩ := hI.1.2.1 j hj
      first | refine aw_aload_n (i := 0) (q := 27) dX2_giveBack_26 rfl rfl rfl ?_ | refine aw_aloadN_n (i := 0) (q := 27) dX2_giveBack_26 rfl rfl rfl ?_ | refine aw_aloadQ_n (i := 0) (q := 27) dX2_giveBack_26 rfl rfl rfl ?_
      first | refine aw_aload_n (i := 0) (q := 28) dX2_giveBack_27 rfl rfl rfl ?_ | refine aw_aloadN_n (i := 0) (q := 28) dX2_giveBack_27 rfl rfl rfl ?_ | refine aw_aloadQ_n (i := 0) (q := 28) dX2_giveBack_27 rfl rfl rfl ?_
      refine aw_iload_n (i := 1) (q := 29) dX2_giveBack_28 rfl rfl rfl ?_
      refine aw_iconst (v := 0) (q := 30) dX2_giveBack_29 rfl rfl ?_
      refine aw_callV (q := 33) dX2_giveBack_30 (C2_ofBooking (s := j) (c := 0) hT rfl rfl (by omega) (by omega)) cv_X2_88_2 (by assumption) rfl rfl (by decide) (by decide) (by first | exact Nat.le_of_ble_eq_true rfl | simp [zcat_rf, Value.category]) rfl (zpk ?_)
      rw [hs]
      refine aw_iconst (v := 1) (q := 34) dX2_giveBack_33 rfl rfl ?_
      refine aw_callV (q := 37) dX2_giveBack_34 (C2_ofShow (s := tSh P j) (c := 1) hT rfl rfl (by omega) (by omega)) cv_X2_75_2 (by assumption) rfl rfl (by decide) (by decide) (by first | exact Nat.le_of_ble_eq_true rfl | simp [zcat_rf, Value.category]) rfl (zpk ?_)
      first | refine aw_aload_n (i := 0) (q := 38) dX2_giveBack_37 rfl rfl rfl ?_ | refine aw_aloadN_n (i := 0) (q := 38) dX2_giveBack_37 rfl rfl rfl ?_ | refine aw_aloadQ_n (i := 0) (q := 38) dX2_giveBack_37 rfl rfl rfl ?_
      refine aw_getfield (q := 41) dX2_giveBack_38 gf_X2_7_2 (by assumption) rfl rfl ?_
      refine aw_bipush (v := 6) (q := 43) dX2_giveBack_41 rfl rfl ?_
      refine aw_iald (q := 44) (v := P 0 0 6) (6) dX2_giveBack_43 (by assumption) (by first | assumption | (simp only [← nI_add, ← pk_mul]; rfl) | rfl) (by omega) (by omega) (hT.2.1.g (by omega)) rfl ?_
      refine aw_isub (q := 45) dX2_giveBack_44 rfl ?_
      refine aw_istore_n (i := 2) (q := 46) dX2_giveBack_45 rfl (by decide) rfl ?_
      first | refine aw_aload_n (i := 0) (q := 47) dX2_giveBack_46 rfl rfl rfl ?_ | refine aw_aloadN_n (i := 0) (q := 47) dX2_giveBack_46 rfl rfl rfl ?_ | refine aw_aloadQ_n (i := 0) (q := 47) dX2_giveBack_46 rfl rfl rfl ?_
      refine aw_iload_n (i := 1) (q := 48) dX2_giveBack_47 rfl rfl rfl ?_
      refine aw_iconst (v := 5) (q := 49) dX2_giveBack_48 rfl rfl ?_
      refine aw_callV (q := 52) dX2_giveBack_49 (C2_ofBooking (s := j) (c := 5) hT rfl rfl (by omega) (by omega)) cv_X2_88_2 (by assumption) rfl rfl (by decide) (by decide) (by first | exact Nat.le_of_ble_eq_true rfl | simp [zcat_rf, Value.category]) rfl (zpk ?_)
      refine aw_istore_n (i := 3) (q := 53) dX2_giveBack_52 rfl (by decide) rfl ?_
      refine aw_iload_n (i := 2) (q := 54) dX2_giveBack_53 rfl rfl rfl ?_
      first | refine aw_aload_n (i := 0) (q := 55) dX2_giveBack_54 rfl rfl rfl ?_ | refine aw_aloadN_n (i := 0) (q := 55) dX2_giveBack_54 rfl rfl rfl ?_ | refine aw_aloadQ_n (i := 0) (q := 55) dX2_giveBack_54 rfl rfl rfl ?_
      refine aw_getfield (q := 58) dX2_giveBack_55 gf_X2_7_2 (by assumption) rfl rfl ?_
      refine aw_iconst (v := 1) (q := 59) dX2_giveBack_58 rfl rfl ?_
      have fin : ∀ v : Int32, v = tBack P j → AW G 3 MX2_giveBack (tPub G μ m lam K (tGiveC P R (nI j))) 0 0 86 [(0, .ref m), (1, .int (nI j))] [.int v] μ1 := by
        intro v hv
        subst hv
        refine aw_istore (q := 88) dX2_giveBack_86 (by decide) rfl ?_
        first | refine aw_aload_n (i := 0) (q := 89) dX2_giveBack_88 rfl rfl rfl ?_ | refine aw_aloadN_n (i := 0) (q := 89) dX2_giveBack_88 rfl rfl rfl ?_ | refine aw_aloadQ_n (i := 0) (q := 89) dX2_giveBack_88 rfl rfl rfl ?_
        refine aw_iload_n (i := 1) (q := 90) dX2_giveBack_89 rfl rfl rfl ?_
        refine aw_iconst (v := 4) (q := 91) dX2_giveBack_90 rfl rfl ?_
        refine aw_callV (q := 94) dX2_giveBack_91 (C2_tally (w := 4) hT rfl rfl hj (by omega) hI.1.2.1) cv_X2_113_2 (by assumption) rfl rfl (by decide) (by decide) (by first | exact Nat.le_of_ble_eq_true rfl | simp [zcat_rf, Value.category]) rfl (fun v91 μ2 hp => ?_)
        obtain ⟨rfl, ⟨f2, hT2⟩, hk2⟩ := hp
        have hm := hT2.m
        first | refine aw_aload_n (i := 0) (q := 95) dX2_giveBack_94 rfl rfl rfl ?_ | refine aw_aloadN_n (i := 0) (q := 95) dX2_giveBack_94 rfl rfl rfl ?_ | refine aw_aloadQ_n (i := 0) (q := 95) dX2_giveBack_94 rfl rfl rfl ?_
        refine aw_iload_n (i := 1) (q := 96) dX2_giveBack_95 rfl rfl rfl ?_
        refine aw_iconst (v := 3) (q := 97) dX2_giveBack_96 rfl rfl ?_
        refine aw_iload (q := 99) dX2_giveBack_97 rfl rfl ?_
        refine aw_callV (q := 102) dX2_giveBack_99 (C2_vacate (b := j) hT2 rfl (by omega)) cv_X2_117_2 (by assumption) rfl rfl (by decide) (by decide) (by first | exact Nat.le_of_ble_eq_true rfl | simp [zcat_rf, Value.category]) rfl (fun v99 μ3 hp => ?_)
        obtain ⟨rfl, ⟨f3, hT3⟩, hk3⟩ := hp
        refine aw_iload (q := 104) dX2_giveBack_102 rfl rfl ?_
        exact aw_ireturn dX2_giveBack_104 rfl (by first | rfl | exact zB_nar _) (tPub.of hT3 (hr.congr (fun _ _ => rfl) rfl rfl rfl rfl) (hf.tr ⟨rfl, fun _ _ => rfl⟩) ((hk.tr hk2).tr hk3) e0)
      refine aw_iald (q := 60) (v := P 0 0 1) (1) dX2_giveBack_59 (by assumption) (by first | assumption | (simp only [← nI_add, ← pk_mul]; rfl) | rfl) (by omega) (by omega) (hT.2.1.g (by omega)) rfl ?_
      refine aw_icmp_lt (tgt := 67) (q := 63) dX2_giveBack_60 (by decide) rfl (fun hc => ?_) (fun hc => ?_)
      · refine aw_iload_n (i := 2) (q := 68) dX2_giveBack_67 rfl rfl rfl ?_
        refine aw_if_le (tgt := 85) (q := 71) dX2_giveBack_68 (by decide) rfl (fun hd => ?_) (fun hd => ?_)
        · refine aw_iconst (v := 0) (q := 86) dX2_giveBack_85 rfl rfl ?_
          exact aw_locals (by exact ⟨rfl, rfl, trivial⟩) (fin 0 (by rw [tBack, if_neg (Int32.not_le.mpr hc), if_neg (Int32.not_lt.mpr hd)]))
        · refine aw_iload_n (i := 3) (q := 72) dX2_giveBack_71 rfl rfl rfl ?_
          first | refine aw_aload_n (i := 0) (q := 73) dX2_giveBack_72 rfl rfl rfl ?_ | refine aw_aloadN_n (i := 0) (q := 73) dX2_giveBack_72 rfl rfl rfl ?_ | refine aw_aloadQ_n (i := 0) (q := 73) dX2_giveBack_72 rfl rfl rfl ?_
          refine aw_getfield (q := 76) dX2_giveBack_73 gf_X2_7_2 (by assumption) rfl rfl ?_
          refine aw_iconst (v := 2) (q := 77) dX2_giveBack_76 rfl rfl ?_
          refine aw_iald (q := 78) (v := P 0 0 2) (2) dX2_giveBack_77 (by assumption) (by first | assumption | (simp only [← nI_add, ← pk_mul]; rfl) | rfl) (by omega) (by omega) (hT.2.1.g (by omega)) rfl ?_
          refine aw_imul (q := 79) dX2_giveBack_78 rfl ?_
          refine aw_bipush (v := 100) (q := 81) dX2_giveBack_79 rfl rfl ?_
          refine aw_idiv (q := 82) dX2_giveBack_81 (by decide) rfl ?_
          refine aw_goto (tgt := 86) dX2_giveBack_82 (by decide) ?_
          exact aw_locals (by exact ⟨rfl, rfl, trivial⟩) (fin _ (by rw [tBack, if_neg (Int32.not_le.mpr hc), if_pos (Int32.not_le.mp hd)]))
      · refine aw_iload_n (i := 3) (q := 64) dX2_giveBack_63 rfl rfl rfl ?_
        refine aw_goto (tgt := 86) dX2_giveBack_64 (by decide) ?_
        exact aw_locals (by exact ⟨rfl, rfl, trivial⟩) (fin _ (by rw [tBack, if_pos (Int32.not_lt.mp hc)]))
    · refine aw_bipush (v := (-5)) (q := 21) dX2_giveBack_19 rfl rfl ?_
      exact aw_ireturn dX2_giveBack_21 rfl (by first | rfl | exact zB_nar _) (tPub.same hS (by rw [e0, if_neg hb]))
  · refine aw_iconst (v := (-1)) (q := 9) dX2_giveBack_8 rfl rfl ?_
    exact aw_ireturn dX2_giveBack_9 rfl (by first | rfl | exact zB_nar _) (tPub.same hS (if_neg (zB_0 ha)))
theorem C2_event {d s n : Int32} (hS : zTS G μ m lam K P R) (hI : tPI P) : Meets G 7 MX2_event [.ref m, .int d, .int s, .int n] μ (tPub G μ m lam K (tEventC P R d s n)) 0 0 := by
  have hm := hS.1.m
  obtain ⟨hn, hN⟩ := hS.1.2.2.e
  refine meets_of (by decide +kernel) (Nat.le_of_ble_eq_true rfl) ?_
  first | refine aw_aload_n (i := 0) (q := 1) dX2_event_0 rfl rfl rfl ?_ | refine aw_aloadN_n (i := 0) (q := 1) dX2_event_0 rfl rfl rfl ?_ | refine aw_aloadQ_n (i := 0) (q := 1) dX2_event_0 rfl rfl rfl ?_
  refine aw_iload_n (i := 1) (q := 2) dX2_event_1 rfl rfl rfl ?_
  refine aw_iload_n (i := 2) (q := 3) dX2_event_2 rfl rfl rfl ?_
  refine aw_iload_n (i := 3) (q := 4) dX2_event_3 rfl rfl rfl ?_
  refine aw_callV (q := 7) dX2_event_4 (C2_barOfEvent hS.1) cv_X2_133_2 (by assumption) rfl rfl (by decide) (by decide) (by first | exact Nat.le_of_ble_eq_true rfl | simp [zcat_rf, Value.category]) rfl (zpk ?_)
  refine aw_istore (q := 9) dX2_event_7 (by decide) rfl ?_
  refine aw_iload (q := 11) dX2_event_9 rfl rfl ?_
  refine aw_if_ge (tgt := 17) (q := 14) dX2_event_11 (by decide) rfl (fun ha => ?_) (fun ha => ?_)
  · first | refine aw_aload_n (i := 0) (q := 18) dX2_event_17 rfl rfl rfl ?_ | refine aw_aloadN_n (i := 0) (q := 18) dX2_event_17 rfl rfl rfl ?_ | refine aw_aloadQ_n (i := 0) (q := 18) dX2_event_17 rfl rfl rfl ?_
    have hbar : ¬ tBar P d s n < 0 := Int32.not_lt.mpr ha
    have e0 := tEventC
    obtain ⟨mv, hmv, hmv2⟩ := hI.2.2.1
    obtain ⟨t, ht, ht2⟩ := hI.2.2.2.1
    have hg : P 0 0 6 ≤ d ∧ d ≤ P 0 0 6 + 60 ∧ 0 ≤ s ∧ s ≤ 5 ∧ 1 ≤ n ∧ n ≤ 6 ∧ s + n ≤ 6 := by
      refine Decidable.of_not_not (fun h => hbar ?_)
      rw [tBar, if_neg h]
      decide
    have hE : pcn P 11 < 20 := by
      have h20 : P 0 0 11 ≠ 20 := fun e => hbar (by rw [tBar, if_pos hg, if_pos e]; decide)
      have : pcn P 11 ≠ 20 := fun e => h20 (by rw [hn, e]; rfl)
      omega
    obtain ⟨g1, g2, g3, g4, g5, g6, g7⟩ := hg
    obtain ⟨dd, hd1, hd2, rfl⟩ := zOf (A := t) (B := t + 60) ht2 (by rw [ht2]; exact nI_add t 60) (by omega) (by omega) ⟨g1, g2⟩
    obtain ⟨ss, hs1, hs2, rfl⟩ := zOf (A := 0) (B := 5) rfl rfl (by omega) (by omega) ⟨g3, g4⟩
    obtain ⟨nn, hn1, hn2, rfl⟩ := zOf (A := 1) (B := 6) rfl rfl (by omega) (by omega) ⟨g5, g6⟩
    rw [nI_add] at g7
    have g8 := (nI_leI (a := ss + nn) (b := 6) (by omega) (by omega)).mp g7
    have e0 : tEventC P R (nI dd) (nI ss) (nI nn) = ((tTell P tZ (nI dd) ss nn).1, tRec P R, (tTell P tZ (nI dd) ss nn).2 0 + (tTell P tZ (nI dd) ss nn).2 1) := by rw [tEventC, if_neg hbar, nI_clamp (by omega), nI_clamp (by omega)]
    refine aw_callV (q := 21) dX2_event_18 (C2_record hS) cv_X2_53_2 (by assumption) rfl rfl (by decide) (by decide) (by first | exact Nat.le_of_ble_eq_true rfl | simp [zcat_rf, Value.category]) rfl (fun v18 μ1 hp => ?_)
    obtain ⟨rfl, ⟨K', ⟨hT, hr⟩, e1, hf⟩, hk⟩ := hp
    have hm := hT.m
    first | refine aw_aload_n (i := 0) (q := 22) dX2_event_21 rfl rfl rfl ?_ | refine aw_aloadN_n (i := 0) (q := 22) dX2_event_21 rfl rfl rfl ?_ | refine aw_aloadQ_n (i := 0) (q := 22) dX2_event_21 rfl rfl rfl ?_
    refine aw_iload_n (i := 1) (q := 23) dX2_event_22 rfl rfl rfl ?_
    refine aw_iload_n (i := 2) (q := 24) dX2_event_23 rfl rfl rfl ?_
    refine aw_iload_n (i := 3) (q := 25) dX2_event_24 rfl rfl rfl ?_
    refine aw_callV (q := 28) dX2_event_25 (C2_tellEvent (slot := ss) (many := nn) hT rfl rfl rfl (by omega) g8 hI.1.2.1 hI.2.1 hE hmv2 hmv) cv_X2_137_2 (by assumption) rfl rfl (by decide) (by decide) (by first | exact Nat.le_of_ble_eq_true rfl | simp [zcat_rf, Value.category]) rfl (fun v25 μ2 hp => ?_)
    obtain ⟨rfl, ⟨f2, hT2⟩, hk2⟩ := hp
    have hm := hT2.m
    have h8 := hT2.a8
    obtain ⟨t1, t2⟩ := tTell_D (P := P) (K' 8) (day := nI dd) (slot := ss) (many := nn)
    first | refine aw_aload_n (i := 0) (q := 29) dX2_event_28 rfl rfl rfl ?_ | refine aw_aloadN_n (i := 0) (q := 29) dX2_event_28 rfl rfl rfl ?_ | refine aw_aloadQ_n (i := 0) (q := 29) dX2_event_28 rfl rfl rfl ?_
    refine aw_getfield (q := 32) dX2_event_29 gf_X2_32_2 (by assumption) rfl rfl ?_
    refine aw_iconst (v := 0) (q := 33) dX2_event_32 rfl rfl ?_
    refine aw_iald (q := 34) (v := (tTell P tZ (nI dd) ss nn).2 0) (0) dX2_event_33 (by assumption) (by first | assumption | (simp only [← nI_add, ← pk_mul]; rfl) | rfl) (by omega) (by omega) (t2 0 (by omega)) rfl ?_
    first | refine aw_aload_n (i := 0) (q := 35) dX2_event_34 rfl rfl rfl ?_ | refine aw_aloadN_n (i := 0) (q := 35) dX2_event_34 rfl rfl rfl ?_ | refine aw_aloadQ_n (i := 0) (q := 35) dX2_event_34 rfl rfl rfl ?_
    refine aw_getfield (q := 38) dX2_event_35 gf_X2_32_2 (by assumption) rfl rfl ?_
    refine aw_iconst (v := 1) (q := 39) dX2_event_38 rfl rfl ?_
    refine aw_iald (q := 40) (v := (tTell P tZ (nI dd) ss nn).2 1) (1) dX2_event_39 (by assumption) (by first | assumption | (simp only [← nI_add, ← pk_mul]; rfl) | rfl) (by omega) (by omega) (t2 1 (by omega)) rfl ?_
    refine aw_iadd (q := 41) dX2_event_40 rfl ?_
    rw [t1] at hT2
    exact aw_ireturn dX2_event_41 rfl (by first | rfl | exact zB_nar _) (tPub.of hT2 (hr.congr (fun _ _ => rfl) rfl rfl rfl rfl) (hf.tr ⟨rfl, fun _ _ => rfl⟩) (hk.tr hk2) e0)
  · refine aw_iload (q := 16) dX2_event_14 rfl rfl ?_
    exact aw_ireturn dX2_event_16 rfl (by first | rfl | exact zB_nar _) (tPub.same hS (if_pos (Int32.not_le.mp ha)))
theorem C2_promise {sc k se la : Int32} (hS : zTS G μ m lam K P R) : Meets G 3 MX2_promise [.ref m, .int sc, .int k, .int se, .int la] μ (tPub G μ m lam K (tPromC P R sc k se la)) 0 0 := by
  have hm := hS.1.m
  have h1 := hS.1.a1
  obtain ⟨hn, hN⟩ := hS.1.2.2.p
  have hle : P 0 0 12 ≠ 12 → pcn P 12 < 12 := fun h => by
    have : pcn P 12 ≠ 12 := fun e => h (by rw [hn, e]; rfl)
    omega
  refine meets_of (by decide +kernel) (Nat.le_of_ble_eq_true rfl) ?_
  refine aw_iload_n (i := 1) (q := 1) dX2_promise_0 rfl rfl rfl ?_
  refine aw_iconst (v := 0) (q := 2) dX2_promise_1 rfl rfl ?_
  refine aw_iconst (v := 5) (q := 3) dX2_promise_2 rfl rfl ?_
  refine aw_callS (q := 6) dX2_promise_3 (C2_in) cs_X2_49 rfl rfl (by decide) (by decide) (by first | exact Nat.le_of_ble_eq_true rfl | simp [zcat_rf, Value.category]) rfl (zpk ?_)
  refine aw_if_eq (tgt := 45) (q := 9) dX2_promise_6 (by decide) rfl (fun ha => ?_) (fun ha => ?_)
  · refine aw_bipush (v := (-2)) (q := 47) dX2_promise_45 rfl rfl ?_
    exact aw_ireturn dX2_promise_47 rfl (by first | rfl | exact zB_nar _) (tPub.same hS (if_neg (fun h => zB_0 ha h.1)))
  · refine aw_iload_n (i := 3) (q := 10) dX2_promise_9 rfl rfl rfl ?_
    refine aw_iconst (v := 1) (q := 11) dX2_promise_10 rfl rfl ?_
    refine aw_sipush (v := 200) (q := 14) dX2_promise_11 rfl rfl ?_
    refine aw_callS (q := 17) dX2_promise_14 (C2_in) cs_X2_49 rfl rfl (by decide) (by decide) (by first | exact Nat.le_of_ble_eq_true rfl | simp [zcat_rf, Value.category]) rfl (zpk ?_)
    refine aw_if_eq (tgt := 45) (q := 20) dX2_promise_17 (by decide) rfl (fun hb => ?_) (fun hb => ?_)
    · refine aw_bipush (v := (-2)) (q := 47) dX2_promise_45 rfl rfl ?_
      exact aw_ireturn dX2_promise_47 rfl (by first | rfl | exact zB_nar _) (tPub.same hS (if_neg (fun h => zB_0 hb h.2.1)))
    · refine aw_iload (q := 22) dX2_promise_20 rfl rfl ?_
      first | refine aw_aload_n (i := 0) (q := 23) dX2_promise_22 rfl rfl rfl ?_ | refine aw_aloadN_n (i := 0) (q := 23) dX2_promise_22 rfl rfl rfl ?_ | refine aw_aloadQ_n (i := 0) (q := 23) dX2_promise_22 rfl rfl rfl ?_
      refine aw_getfield (q := 26) dX2_promise_23 gf_X2_7_2 (by assumption) rfl rfl ?_
      refine aw_bipush (v := 6) (q := 28) dX2_promise_26 rfl rfl ?_
      refine aw_iald (q := 29) (v := P 0 0 6) (6) dX2_promise_28 (by assumption) (by first | assumption | (simp only [← nI_add, ← pk_mul]; rfl) | rfl) (by omega) (by omega) (hS.1.2.1.g (by omega)) rfl ?_
      first | refine aw_aload_n (i := 0) (q := 30) dX2_promise_29 rfl rfl rfl ?_ | refine aw_aloadN_n (i := 0) (q := 30) dX2_promise_29 rfl rfl rfl ?_ | refine aw_aloadQ_n (i := 0) (q := 30) dX2_promise_29 rfl rfl rfl ?_
      refine aw_getfield (q := 33) dX2_promise_30 gf_X2_7_2 (by assumption) rfl rfl ?_
      refine aw_bipush (v := 6) (q := 35) dX2_promise_33 rfl rfl ?_
      refine aw_iald (q := 36) (v := P 0 0 6) (6) dX2_promise_35 (by assumption) (by first | assumption | (simp only [← nI_add, ← pk_mul]; rfl) | rfl) (by omega) (by omega) (hS.1.2.1.g (by omega)) rfl ?_
      refine aw_bipush (v := 60) (q := 38) dX2_promise_36 rfl rfl ?_
      refine aw_iadd (q := 39) dX2_promise_38 rfl ?_
      refine aw_callS (q := 42) dX2_promise_39 (C2_in) cs_X2_49 rfl rfl (by decide) (by decide) (by first | exact Nat.le_of_ble_eq_true rfl | simp [zcat_rf, Value.category]) rfl (zpk ?_)
      refine aw_if_ne (tgt := 48) (q := 45) dX2_promise_42 (by decide) rfl (fun hc => ?_) (fun hc => ?_)
      · first | refine aw_aload_n (i := 0) (q := 49) dX2_promise_48 rfl rfl rfl ?_ | refine aw_aloadN_n (i := 0) (q := 49) dX2_promise_48 rfl rfl rfl ?_ | refine aw_aloadQ_n (i := 0) (q := 49) dX2_promise_48 rfl rfl rfl ?_
        refine aw_iload_n (i := 2) (q := 50) dX2_promise_49 rfl rfl rfl ?_
        have good := And.intro (zB_1 ha) (And.intro (zB_1 hb) (zB_1 hc))
        refine aw_callV (q := 53) dX2_promise_50 (C2_isKind hS.1) cv_X2_56_2 (by assumption) rfl rfl (by decide) (by decide) (by first | exact Nat.le_of_ble_eq_true rfl | simp [zcat_rf, Value.category]) rfl (zpk ?_)
        refine aw_if_ne (tgt := 58) (q := 56) dX2_promise_53 (by decide) rfl (fun hd => ?_) (fun hd => ?_)
        · first | refine aw_aload_n (i := 0) (q := 59) dX2_promise_58 rfl rfl rfl ?_ | refine aw_aloadN_n (i := 0) (q := 59) dX2_promise_58 rfl rfl rfl ?_ | refine aw_aloadQ_n (i := 0) (q := 59) dX2_promise_58 rfl rfl rfl ?_
          refine aw_getfield (q := 62) dX2_promise_59 gf_X2_7_2 (by assumption) rfl rfl ?_
          refine aw_bipush (v := 12) (q := 64) dX2_promise_62 rfl rfl ?_
          refine aw_iald (q := 65) (v := P 0 0 12) (12) dX2_promise_64 (by assumption) (by first | assumption | (simp only [← nI_add, ← pk_mul]; rfl) | rfl) (by omega) (by omega) (hS.1.2.1.g (by omega)) rfl ?_
          refine aw_bipush (v := 12) (q := 67) dX2_promise_65 rfl rfl ?_
          refine aw_icmp_ne (tgt := 73) (q := 70) dX2_promise_67 (by decide) rfl (fun he => ?_) (fun he => ?_)
          · skip
            have hlt := hle he
            have e0 : tPromC P R sc k se la = if tHasProm P sc k (pcn P 12) = true then (P, R, -5) else (tPromAdd P sc k se la, tRec P R, nI (pcn P 12)) := by rw [tPromC, if_pos good, if_pos (zB_1 hd), if_neg he]
            have mk : tHasProm P sc k (pcn P 12) = false → AW G 3 MX2_promise (tPub G μ m lam K (tPromC P R sc k se la)) 0 0 144 [(0, .ref m), (1, .int sc), (2, .int k), (3, .int se), (4, .int la)] [] μ := by
              intro hno
              rw [hno, if_neg (by decide)] at e0
              first | refine aw_aload_n (i := 0) (q := 145) dX2_promise_144 rfl rfl rfl ?_ | refine aw_aloadN_n (i := 0) (q := 145) dX2_promise_144 rfl rfl rfl ?_ | refine aw_aloadQ_n (i := 0) (q := 145) dX2_promise_144 rfl rfl rfl ?_
              refine aw_callV (q := 148) dX2_promise_145 (C2_record hS) cv_X2_53_2 (by assumption) rfl rfl (by decide) (by decide) (by first | exact Nat.le_of_ble_eq_true rfl | simp [zcat_rf, Value.category]) rfl (fun v145 μ1 hp => ?_)
              obtain ⟨rfl, ⟨K', ⟨hT, hr⟩, e1, hf⟩, hk⟩ := hp
              have hT : zTP G μ1 m lam (setK K' 1 (K' 1)) P := by rw [setK_self]; exact hT
              have hm := hT.m
              have h1 := hT.a1
              refine aw_sipush (v := 1860) (q := 151) dX2_promise_148 rfl rfl ?_
              refine aw_bipush (v := 10) (q := 153) dX2_promise_151 rfl rfl ?_
              first | refine aw_aload_n (i := 0) (q := 154) dX2_promise_153 rfl rfl rfl ?_ | refine aw_aloadN_n (i := 0) (q := 154) dX2_promise_153 rfl rfl rfl ?_ | refine aw_aloadQ_n (i := 0) (q := 154) dX2_promise_153 rfl rfl rfl ?_
              refine aw_getfield (q := 157) dX2_promise_154 gf_X2_7_2 (by assumption) rfl rfl ?_
              refine aw_bipush (v := 12) (q := 159) dX2_promise_157 rfl rfl ?_
              refine aw_iald (q := 160) (v := nI (pcn P 12)) (12) dX2_promise_159 (by assumption) (by first | assumption | (simp only [← nI_add, ← pk_mul]; rfl) | rfl) (by omega) (by omega) ((hT.2.1.g (by omega)).trans hn) rfl ?_
              refine aw_imul (q := 161) dX2_promise_160 rfl ?_
              refine aw_iadd (q := 162) dX2_promise_161 rfl ?_
              refine aw_istore (q := 164) dX2_promise_162 (by decide) rfl ?_
              first | refine aw_aload_n (i := 0) (q := 165) dX2_promise_164 rfl rfl rfl ?_ | refine aw_aloadN_n (i := 0) (q := 165) dX2_promise_164 rfl rfl rfl ?_ | refine aw_aloadQ_n (i := 0) (q := 165) dX2_promise_164 rfl rfl rfl ?_
              refine aw_getfield (q := 168) dX2_promise_165 gf_X2_7_2 (by assumption) rfl rfl ?_
              refine aw_iload (q := 170) dX2_promise_168 rfl rfl ?_
              refine aw_iload_n (i := 1) (q := 171) dX2_promise_170 rfl rfl rfl ?_
              refine aw_iast (q := 172) (1860 + 10 * pcn P 12) dX2_promise_171 h1 (by first | assumption | simp) (by first | assumption | (simp only [← nI_add, ← pk_mul]; rfl) | rfl) (by omega) (by omega) rfl (fun μt1 hg_μt1 => ?_)
              have h1 : μt1 _ = some _ := hg_μt1 ▸ updM_eq _ _ _
              obtain ⟨fμt1, hT, hk⟩ := hT.st' hk (s := 6) (i := pcn P 12) (c := 0) (by omega) (show pcn P 12 < 12 by omega) (show 0 < 10 by omega) (by first | (simp only [tB, tW]; done) | (simp only [tB, tW]; omega)) hg_μt1 (hT.2.2.upd (by omega))
              have hm := hT.m
              have h1 := hT.a1
              first | refine aw_aload_n (i := 0) (q := 173) dX2_promise_172 rfl rfl rfl ?_ | refine aw_aloadN_n (i := 0) (q := 173) dX2_promise_172 rfl rfl rfl ?_ | refine aw_aloadQ_n (i := 0) (q := 173) dX2_promise_172 rfl rfl rfl ?_
              refine aw_getfield (q := 176) dX2_promise_173 gf_X2_7_2 (by assumption) rfl rfl ?_
              refine aw_iload (q := 178) dX2_promise_176 rfl rfl ?_
              refine aw_iconst (v := 1) (q := 179) dX2_promise_178 rfl rfl ?_
              refine aw_iadd (q := 180) dX2_promise_179 rfl ?_
              refine aw_iload_n (i := 2) (q := 181) dX2_promise_180 rfl rfl rfl ?_
              refine aw_iast (q := 182) (1860 + 10 * pcn P 12 + 1) dX2_promise_181 h1 (by first | assumption | simp) (by first | assumption | (simp only [← nI_add, ← pk_mul]; rfl) | rfl) (by omega) (by omega) rfl (fun μt2 hg_μt2 => ?_)
              have h1 : μt2 _ = some _ := hg_μt2 ▸ updM_eq _ _ _
              obtain ⟨fμt2, hT, hk⟩ := hT.st' hk (s := 6) (i := pcn P 12) (c := 1) (by omega) (show pcn P 12 < 12 by omega) (show 1 < 10 by omega) (by first | (simp only [tB, tW]; done) | (simp only [tB, tW]; omega)) hg_μt2 (hT.2.2.upd (by omega))
              have hm := hT.m
              have h1 := hT.a1
              first | refine aw_aload_n (i := 0) (q := 183) dX2_promise_182 rfl rfl rfl ?_ | refine aw_aloadN_n (i := 0) (q := 183) dX2_promise_182 rfl rfl rfl ?_ | refine aw_aloadQ_n (i := 0) (q := 183) dX2_promise_182 rfl rfl rfl ?_
              refine aw_getfield (q := 186) dX2_promise_183 gf_X2_7_2 (by assumption) rfl rfl ?_
              refine aw_iload (q := 188) dX2_promise_186 rfl rfl ?_
              refine aw_iconst (v := 2) (q := 189) dX2_promise_188 rfl rfl ?_
              refine aw_iadd (q := 190) dX2_promise_189 rfl ?_
              refine aw_iload_n (i := 3) (q := 191) dX2_promise_190 rfl rfl rfl ?_
              refine aw_iast (q := 192) (1860 + 10 * pcn P 12 + 2) dX2_promise_191 h1 (by first | assumption | simp) (by first | assumption | (simp only [← nI_add, ← pk_mul]; rfl) | rfl) (by omega) (by omega) rfl (fun μt3 hg_μt3 => ?_)
              have h1 : μt3 _ = some _ := hg_μt3 ▸ updM_eq _ _ _
              obtain ⟨fμt3, hT, hk⟩ := hT.st' hk (s := 6) (i := pcn P 12) (c := 2) (by omega) (show pcn P 12 < 12 by omega) (show 2 < 10 by omega) (by first | (simp only [tB, tW]; done) | (simp only [tB, tW]; omega)) hg_μt3 (hT.2.2.upd (by omega))
              have hm := hT.m
              have h1 := hT.a1
              first | refine aw_aload_n (i := 0) (q := 193) dX2_promise_192 rfl rfl rfl ?_ | refine aw_aloadN_n (i := 0) (q := 193) dX2_promise_192 rfl rfl rfl ?_ | refine aw_aloadQ_n (i := 0) (q := 193) dX2_promise_192 rfl rfl rfl ?_
              refine aw_getfield (q := 196) dX2_promise_193 gf_X2_7_2 (by assumption) rfl rfl ?_
              refine aw_iload (q := 198) dX2_promise_196 rfl rfl ?_
              refine aw_iconst (v := 3) (q := 199) dX2_promise_198 rfl rfl ?_
              refine aw_iadd (q := 200) dX2_promise_199 rfl ?_
              refine aw_iload (q := 202) dX2_promise_200 rfl rfl ?_
              refine aw_iast (q := 203) (1860 + 10 * pcn P 12 + 3) dX2_promise_202 h1 (by first | assumption | simp) (by first | assumption | (simp only [← nI_add, ← pk_mul]; rfl) | rfl) (by omega) (by omega) rfl (fun μ8 hg_μ8 => ?_)
              have h1 : μ8 _ = some _ := hg_μ8 ▸ updM_eq _ _ _
              obtain ⟨fμ8, hT, hk⟩ := hT.st' hk (s := 6) (i := pcn P 12) (c := 3) (by omega) (show pcn P 12 < 12 by omega) (show 3 < 10 by omega) (by first | (simp only [tB, tW]; done) | (simp only [tB, tW]; omega)) hg_μ8 (hT.2.2.upd (by omega))
              have hm := hT.m
              have h1 := hT.a1
              refine aw_iconst (v := 4) (q := 204) dX2_promise_203 rfl rfl ?_
              refine aw_istore (q := 206) dX2_promise_204 (by decide) rfl ?_
              have loop : ∀ n e, e + n = 6 → ∀ (μ1 : zM) (f1 : Nat → Int32), zTP G μ1 m lam (setK K' 1 f1) (tPz (updP (updP (updP (updP P 6 (pcn P 12) 0 sc) 6 (pcn P 12) 1 k) 6 (pcn P 12) 2 se) 6 (pcn P 12) 3 la) (pcn P 12) e) → zKp tTw μ μ1 → AW G 3 MX2_promise (tPub G μ m lam K (tPromC P R sc k se la)) 0 0 206 [(0, .ref m), (1, .int sc), (2, .int k), (3, .int se), (4, .int la), (5, .int (1860 + 10 * nI (pcn P 12))), (6, .int (nI (4 + e)))] [] μ1 := by
                intro n
                induction n with
                | zero =>
                  intro e he μ1 f1 hT hk
                  have e6 : e = 6 := by omega
                  subst e6
                  have hm := hT.m
                  have h1 := hT.a1
                  refine aw_iload (q := 208) dX2_promise_206 rfl rfl ?_
                  refine aw_bipush (v := 10) (q := 210) dX2_promise_208 rfl rfl ?_
                  refine aw_icmp_ge (tgt := 230) (q := 213) dX2_promise_210 (by decide) rfl (fun _ => ?_) (fun hc => absurd (nI_le (a := 10) (by omega) (by omega)) hc)
                  first | refine aw_aload_n (i := 0) (q := 231) dX2_promise_230 rfl rfl rfl ?_ | refine aw_aloadN_n (i := 0) (q := 231) dX2_promise_230 rfl rfl rfl ?_ | refine aw_aloadQ_n (i := 0) (q := 231) dX2_promise_230 rfl rfl rfl ?_
                  refine aw_getfield (q := 234) dX2_promise_231 gf_X2_7_2 (by assumption) rfl rfl ?_
                  refine aw_bipush (v := 12) (q := 236) dX2_promise_234 rfl rfl ?_
                  refine aw_dup2 (q := 237) dX2_promise_236 (by first | rfl | exact zcat_rf _) (by first | rfl | exact zcat_rf _) rfl ?_
                  refine aw_iald (q := 238) (v := nI (pcn P 12)) (12) dX2_promise_237 (by assumption) (by first | assumption | (simp only [← nI_add, ← pk_mul]; rfl) | rfl) (by omega) (by omega) ((hT.2.1.g (by omega)).trans ((tPz_o (by omega)).trans (by (repeat rw [updP_ne (by omega)]); exact hn))) rfl ?_
                  refine aw_iconst (v := 1) (q := 239) dX2_promise_238 rfl rfl ?_
                  refine aw_iadd (q := 240) dX2_promise_239 rfl ?_
                  refine aw_iast (q := 241) (12) dX2_promise_240 h1 (by first | assumption | simp) (by first | assumption | (simp only [← nI_add, ← pk_mul]; rfl) | rfl) (by omega) (by omega) rfl (fun μt5 hg_μt5 => ?_)
                  have h1 : μt5 _ = some _ := hg_μt5 ▸ updM_eq _ _ _
                  obtain ⟨fμt5, hT, hk⟩ := hT.st' hk (s := 0) (i := 0) (c := 12) (by omega) (show 0 < 1 by omega) (show 12 < 20 by omega) (by first | (simp only [tB, tW]; done) | (simp only [tB, tW]; omega)) hg_μt5 (by rw [nI_1]; exact hT.2.2.cnt (by omega) (by omega) (show _ ≤ 12 by omega))
                  have hm := hT.m
                  have h1 := hT.a1
                  first | refine aw_aload_n (i := 0) (q := 242) dX2_promise_241 rfl rfl rfl ?_ | refine aw_aloadN_n (i := 0) (q := 242) dX2_promise_241 rfl rfl rfl ?_ | refine aw_aloadQ_n (i := 0) (q := 242) dX2_promise_241 rfl rfl rfl ?_
                  refine aw_getfield (q := 245) dX2_promise_242 gf_X2_7_2 (by assumption) rfl rfl ?_
                  refine aw_bipush (v := 12) (q := 247) dX2_promise_245 rfl rfl ?_
                  refine aw_iald (q := 248) (v := nI (pcn P 12 + 1)) (12) dX2_promise_247 (by assumption) (by first | assumption | (simp only [← nI_add, ← pk_mul]; rfl) | rfl) (by omega) (by omega) ((hT.2.1.g (by omega)).trans (by rw [updP_eq]; exact nI_1 _)) rfl ?_
                  refine aw_iconst (v := 1) (q := 249) dX2_promise_248 rfl rfl ?_
                  refine aw_isub (q := 250) dX2_promise_249 rfl ?_
                  rw [nI_pred]
                  exact aw_ireturn dX2_promise_250 rfl (by first | rfl | exact zB_nar _) (tPub.of hT (hr.congr (fun _ _ => rfl) rfl rfl rfl rfl) (hf.tr ⟨rfl, fun _ _ => rfl⟩) hk (by rw [e0, tPromAdd, nI_1]))
                | succ n ih =>
                  intro e he μ1 f1 hT hk
                  have hm := hT.m
                  have h1 := hT.a1
                  refine aw_iload (q := 208) dX2_promise_206 rfl rfl ?_
                  refine aw_bipush (v := 10) (q := 210) dX2_promise_208 rfl rfl ?_
                  refine aw_icmp_ge (tgt := 230) (q := 213) dX2_promise_210 (by decide) rfl (fun hc => absurd hc (nI_ge (b := 10) (a := 4 + e) (by omega) (by omega))) (fun _ => ?_)
                  first | refine aw_aload_n (i := 0) (q := 214) dX2_promise_213 rfl rfl rfl ?_ | refine aw_aloadN_n (i := 0) (q := 214) dX2_promise_213 rfl rfl rfl ?_ | refine aw_aloadQ_n (i := 0) (q := 214) dX2_promise_213 rfl rfl rfl ?_
                  refine aw_getfield (q := 217) dX2_promise_214 gf_X2_7_2 (by assumption) rfl rfl ?_
                  refine aw_iload (q := 219) dX2_promise_217 rfl rfl ?_
                  refine aw_iload (q := 221) dX2_promise_219 rfl rfl ?_
                  refine aw_iadd (q := 222) dX2_promise_221 rfl ?_
                  refine aw_iconst (v := 0) (q := 223) dX2_promise_222 rfl rfl ?_
                  refine aw_iast (q := 224) (1860 + 10 * pcn P 12 + (4 + e)) dX2_promise_223 h1 (by first | assumption | simp) (by first | assumption | (simp only [← nI_add, ← pk_mul]; rfl) | rfl) (by omega) (by omega) rfl (fun μ2 hg_μ2 => ?_)
                  have h1 : μ2 _ = some _ := hg_μ2 ▸ updM_eq _ _ _
                  obtain ⟨f2, hT, hk⟩ := hT.st' hk (s := 6) (i := pcn P 12) (c := 4 + e) (by omega) (show pcn P 12 < 12 by omega) (show 4 + e < 10 by omega) (by simp only [tB, tW]) hg_μ2 (hT.2.2.upd (by omega))
                  rw [tPz_s] at hT
                  refine aw_iinc (q := 227) dX2_promise_224 rfl (by first | exact nI_1 _ | rfl) (by decide) rfl ?_
                  refine aw_goto (tgt := 206) dX2_promise_227 (by decide) ?_
                  exact aw_locals (by exact ⟨rfl, rfl, rfl, rfl, rfl, rfl, rfl, trivial⟩) (ih (e + 1) (by omega) μ2 f2 hT hk)
              exact aw_locals (by exact ⟨rfl, rfl, rfl, rfl, rfl, rfl, rfl, trivial⟩) (loop 6 0 (by omega) μ8 fμ8 (by rw [tPz_0]; exact hT) hk)
            refine aw_iconst (v := 0) (q := 74) dX2_promise_73 rfl rfl ?_
            refine aw_istore (q := 76) dX2_promise_74 (by decide) rfl ?_
            have loop : ∀ n e, e + n = pcn P 12 → tHasProm P sc k e = false → AW G 3 MX2_promise (tPub G μ m lam K (tPromC P R sc k se la)) 0 0 76 [(0, .ref m), (1, .int sc), (2, .int k), (3, .int se), (4, .int la), (5, .int (nI e))] [] μ := by
              intro n
              induction n with
              | zero =>
                intro e he hno
                refine aw_iload (q := 78) dX2_promise_76 rfl rfl ?_
                first | refine aw_aload_n (i := 0) (q := 79) dX2_promise_78 rfl rfl rfl ?_ | refine aw_aloadN_n (i := 0) (q := 79) dX2_promise_78 rfl rfl rfl ?_ | refine aw_aloadQ_n (i := 0) (q := 79) dX2_promise_78 rfl rfl rfl ?_
                refine aw_getfield (q := 82) dX2_promise_79 gf_X2_7_2 (by assumption) rfl rfl ?_
                refine aw_bipush (v := 12) (q := 84) dX2_promise_82 rfl rfl ?_
                refine aw_iald (q := 85) (v := nI (pcn P 12)) (12) dX2_promise_84 (by assumption) (by first | assumption | (simp only [← nI_add, ← pk_mul]; rfl) | rfl) (by omega) (by omega) ((hS.1.2.1.g (by omega)).trans hn) rfl ?_
                refine aw_icmp_ge (tgt := 144) (q := 88) dX2_promise_85 (by decide) rfl (fun _ => ?_) (fun hc => absurd (nI_le (by omega) (by omega)) hc)
                exact aw_locals (by exact ⟨rfl, rfl, rfl, rfl, rfl, trivial⟩) (mk (by rw [show pcn P 12 = e by omega]; exact hno))
              | succ n ih =>
                intro e he hno
                have hlt2 : e < pcn P 12 := by omega
                have next : ¬ (P 6 e 0 = sc ∧ P 6 e 1 = k ∧ P 6 e 4 = 0) → AW G 3 MX2_promise (tPub G μ m lam K (tPromC P R sc k se la)) 0 0 138 [(0, .ref m), (1, .int sc), (2, .int k), (3, .int se), (4, .int la), (5, .int (nI e))] [] μ := by
                  intro h
                  refine aw_iinc (q := 141) dX2_promise_138 rfl (by first | exact nI_1 _ | rfl) (by decide) rfl ?_
                  refine aw_goto (tgt := 76) dX2_promise_141 (by decide) ?_
                  exact aw_locals (by exact ⟨rfl, rfl, rfl, rfl, rfl, rfl, trivial⟩) (ih (e + 1) (by omega) (by show (_ || _) = false; rw [hno, decide_eq_false h]; rfl))
                refine aw_iload (q := 78) dX2_promise_76 rfl rfl ?_
                first | refine aw_aload_n (i := 0) (q := 79) dX2_promise_78 rfl rfl rfl ?_ | refine aw_aloadN_n (i := 0) (q := 79) dX2_promise_78 rfl rfl rfl ?_ | refine aw_aloadQ_n (i := 0) (q := 79) dX2_promise_78 rfl rfl rfl ?_
                refine aw_getfield (q := 82) dX2_promise_79 gf_X2_7_2 (by assumption) rfl rfl ?_
                refine aw_bipush (v := 12) (q := 84) dX2_promise_82 rfl rfl ?_
                refine aw_iald (q := 85) (v := nI (pcn P 12)) (12) dX2_promise_84 (by assumption) (by first | assumption | (simp only [← nI_add, ← pk_mul]; rfl) | rfl) (by omega) (by omega) ((hS.1.2.1.g (by omega)).trans hn) rfl ?_
                refine aw_icmp_ge (tgt := 144) (q := 88) dX2_promise_85 (by decide) rfl (fun hc => absurd hc (nI_ge hlt2 (by omega))) (fun _ => ?_)
                refine aw_sipush (v := 1860) (q := 91) dX2_promise_88 rfl rfl ?_
                refine aw_bipush (v := 10) (q := 93) dX2_promise_91 rfl rfl ?_
                refine aw_iload (q := 95) dX2_promise_93 rfl rfl ?_
                refine aw_imul (q := 96) dX2_promise_95 rfl ?_
                refine aw_iadd (q := 97) dX2_promise_96 rfl ?_
                refine aw_istore (q := 99) dX2_promise_97 (by decide) rfl ?_
                first | refine aw_aload_n (i := 0) (q := 100) dX2_promise_99 rfl rfl rfl ?_ | refine aw_aloadN_n (i := 0) (q := 100) dX2_promise_99 rfl rfl rfl ?_ | refine aw_aloadQ_n (i := 0) (q := 100) dX2_promise_99 rfl rfl rfl ?_
                refine aw_getfield (q := 103) dX2_promise_100 gf_X2_7_2 (by assumption) rfl rfl ?_
                refine aw_iload (q := 105) dX2_promise_103 rfl rfl ?_
                refine aw_iald (q := 106) (v := P 6 e 0) (1860 + 10 * e) dX2_promise_105 (by assumption) (by first | assumption | (simp only [← nI_add, ← pk_mul]; rfl) | rfl) (by omega) (by omega) (hS.1.2.1.pr (c := 0) (by omega) (by omega)) rfl ?_
                refine aw_iload_n (i := 1) (q := 107) dX2_promise_106 rfl rfl rfl ?_
                refine aw_icmp_ne (tgt := 138) (q := 110) dX2_promise_107 (by decide) rfl (fun hf => ?_) (fun hf => ?_)
                · skip
                  exact aw_locals (by exact ⟨rfl, rfl, rfl, rfl, rfl, rfl, trivial⟩) (next (fun h => hf h.1))
                · first | refine aw_aload_n (i := 0) (q := 111) dX2_promise_110 rfl rfl rfl ?_ | refine aw_aloadN_n (i := 0) (q := 111) dX2_promise_110 rfl rfl rfl ?_ | refine aw_aloadQ_n (i := 0) (q := 111) dX2_promise_110 rfl rfl rfl ?_
                  refine aw_getfield (q := 114) dX2_promise_111 gf_X2_7_2 (by assumption) rfl rfl ?_
                  refine aw_iload (q := 116) dX2_promise_114 rfl rfl ?_
                  refine aw_iconst (v := 1) (q := 117) dX2_promise_116 rfl rfl ?_
                  refine aw_iadd (q := 118) dX2_promise_117 rfl ?_
                  refine aw_iald (q := 119) (v := P 6 e 1) (1860 + 10 * e + 1) dX2_promise_118 (by assumption) (by first | assumption | (simp only [← nI_add, ← pk_mul]; rfl) | rfl) (by omega) (by omega) (hS.1.2.1.pr (by omega) (by omega)) rfl ?_
                  refine aw_iload_n (i := 2) (q := 120) dX2_promise_119 rfl rfl rfl ?_
                  refine aw_icmp_ne (tgt := 138) (q := 123) dX2_promise_120 (by decide) rfl (fun hg => ?_) (fun hg => ?_)
                  · skip
                    exact aw_locals (by exact ⟨rfl, rfl, rfl, rfl, rfl, rfl, trivial⟩) (next (fun h => hg h.2.1))
                  · first | refine aw_aload_n (i := 0) (q := 124) dX2_promise_123 rfl rfl rfl ?_ | refine aw_aloadN_n (i := 0) (q := 124) dX2_promise_123 rfl rfl rfl ?_ | refine aw_aloadQ_n (i := 0) (q := 124) dX2_promise_123 rfl rfl rfl ?_
                    refine aw_getfield (q := 127) dX2_promise_124 gf_X2_7_2 (by assumption) rfl rfl ?_
                    refine aw_iload (q := 129) dX2_promise_127 rfl rfl ?_
                    refine aw_iconst (v := 4) (q := 130) dX2_promise_129 rfl rfl ?_
                    refine aw_iadd (q := 131) dX2_promise_130 rfl ?_
                    refine aw_iald (q := 132) (v := P 6 e 4) (1860 + 10 * e + 4) dX2_promise_131 (by assumption) (by first | assumption | (simp only [← nI_add, ← pk_mul]; rfl) | rfl) (by omega) (by omega) (hS.1.2.1.pr (by omega) (by omega)) rfl ?_
                    refine aw_if_ne (tgt := 138) (q := 135) dX2_promise_132 (by decide) rfl (fun hh => ?_) (fun hh => ?_)
                    · skip
                      exact aw_locals (by exact ⟨rfl, rfl, rfl, rfl, rfl, rfl, trivial⟩) (next (fun h => hh h.2.2))
                    · refine aw_bipush (v := (-5)) (q := 137) dX2_promise_135 rfl rfl ?_
                      have hyes : ∀ n, e < n → tHasProm P sc k n = true := by
                        intro n
                        induction n with
                        | zero => intro h; omega
                        | succ n ih2 =>
                          intro h
                          show (_ || _) = true
                          by_cases en : e = n
                          · subst en
                            rw [decide_eq_true ⟨hf, hg, hh⟩, Bool.or_true]
                          · rw [ih2 (by omega)]; rfl
                      exact aw_ireturn dX2_promise_137 rfl (by first | rfl | exact zB_nar _) (tPub.same hS (by rw [e0, if_pos (hyes _ hlt2)]))
            exact aw_locals (by exact ⟨rfl, rfl, rfl, rfl, rfl, rfl, trivial⟩) (loop (pcn P 12) 0 (by omega) rfl)
          · refine aw_bipush (v := (-4)) (q := 72) dX2_promise_70 rfl rfl ?_
            exact aw_ireturn dX2_promise_72 rfl (by first | rfl | exact zB_nar _) (tPub.same hS (by rw [tPromC, if_pos good, if_pos (zB_1 hd), if_pos he]))
        · refine aw_iconst (v := (-1)) (q := 57) dX2_promise_56 rfl rfl ?_
          exact aw_ireturn dX2_promise_57 rfl (by first | rfl | exact zB_nar _) (tPub.same hS (by rw [tPromC, if_pos good, if_neg (zB_0 hd)]))
      · refine aw_bipush (v := (-2)) (q := 47) dX2_promise_45 rfl rfl ?_
        exact aw_ireturn dX2_promise_47 rfl (by first | rfl | exact zB_nar _) (tPub.same hS (if_neg (fun h => zB_0 hc h.2.2)))
/-- days that go by, as a loop of the twin -/
theorem tDays_step {n : Nat} : ∀ {D : Nat → Int32}, (tPass (tDays P n) D).1 = tDays P (n + 1) := fun {D} => tPass_D D
theorem C2_pass {x : Int32} (hS : zTS G μ m lam K P R) (hI : tPI P) : Meets G 7 MX2_pass [.ref m, .int x] μ (tPub G μ m lam K (tPassC P R x)) 0 0 := by
  have hm := hS.1.m
  have h1 := hS.1.a1
  refine meets_of (by decide +kernel) (Nat.le_of_ble_eq_true rfl) ?_
  refine aw_iload_n (i := 1) (q := 1) dX2_pass_0 rfl rfl rfl ?_
  refine aw_iconst (v := 1) (q := 2) dX2_pass_1 rfl rfl ?_
  refine aw_bipush (v := 30) (q := 4) dX2_pass_2 rfl rfl ?_
  refine aw_callS (q := 7) dX2_pass_4 (C2_in) cs_X2_49 rfl rfl (by decide) (by decide) (by first | exact Nat.le_of_ble_eq_true rfl | simp [zcat_rf, Value.category]) rfl (zpk ?_)
  refine aw_if_ne (tgt := 13) (q := 10) dX2_pass_7 (by decide) rfl (fun ha => ?_) (fun ha => ?_)
  · first | refine aw_aload_n (i := 0) (q := 14) dX2_pass_13 rfl rfl rfl ?_ | refine aw_aloadN_n (i := 0) (q := 14) dX2_pass_13 rfl rfl rfl ?_ | refine aw_aloadQ_n (i := 0) (q := 14) dX2_pass_13 rfl rfl rfl ?_
    refine aw_getfield (q := 17) dX2_pass_14 gf_X2_7_2 (by assumption) rfl rfl ?_
    refine aw_bipush (v := 6) (q := 19) dX2_pass_17 rfl rfl ?_
    refine aw_iald (q := 20) (v := P 0 0 6) (6) dX2_pass_19 (by assumption) (by first | assumption | (simp only [← nI_add, ← pk_mul]; rfl) | rfl) (by omega) (by omega) (hS.1.2.1.g (by omega)) rfl ?_
    refine aw_iload_n (i := 1) (q := 21) dX2_pass_20 rfl rfl rfl ?_
    refine aw_iadd (q := 22) dX2_pass_21 rfl ?_
    refine aw_sipush (v := 900) (q := 25) dX2_pass_22 rfl rfl ?_
    refine aw_icmp_le (tgt := 31) (q := 28) dX2_pass_25 (by decide) rfl (fun hb => ?_) (fun hb => ?_)
    · first | refine aw_aload_n (i := 0) (q := 32) dX2_pass_31 rfl rfl rfl ?_ | refine aw_aloadN_n (i := 0) (q := 32) dX2_pass_31 rfl rfl rfl ?_ | refine aw_aloadQ_n (i := 0) (q := 32) dX2_pass_31 rfl rfl rfl ?_
      obtain ⟨n, hn1, hn2, rfl⟩ := zOf (A := 1) (B := 30) rfl rfl (by omega) (by omega) (zB_1 ha)
      have e0 : tPassC P R (nI n) = (tDays P n, tRec P R, tShowsIn (tDays P n) 1 - tShowsIn P 1) := by rw [tPassC, if_pos (zB_1 ha), if_pos hb, nI_clamp (by omega)]
      refine aw_callV (q := 35) dX2_pass_32 (C2_record hS) cv_X2_53_2 (by assumption) rfl rfl (by decide) (by decide) (by first | exact Nat.le_of_ble_eq_true rfl | simp [zcat_rf, Value.category]) rfl (fun v32 μ1 hp => ?_)
      obtain ⟨rfl, ⟨K', ⟨hT, hr⟩, e1, hf⟩, hk⟩ := hp
      have hm := hT.m
      first | refine aw_aload_n (i := 0) (q := 36) dX2_pass_35 rfl rfl rfl ?_ | refine aw_aloadN_n (i := 0) (q := 36) dX2_pass_35 rfl rfl rfl ?_ | refine aw_aloadQ_n (i := 0) (q := 36) dX2_pass_35 rfl rfl rfl ?_
      refine aw_iconst (v := 1) (q := 37) dX2_pass_36 rfl rfl ?_
      refine aw_callV (q := 40) dX2_pass_37 (C2_showsIn hT) cv_X2_152_2 (by assumption) rfl rfl (by decide) (by decide) (by first | exact Nat.le_of_ble_eq_true rfl | simp [zcat_rf, Value.category]) rfl (zpk ?_)
      refine aw_istore_n (i := 2) (q := 41) dX2_pass_40 rfl (by decide) rfl ?_
      refine aw_iconst (v := 0) (q := 42) dX2_pass_41 rfl rfl ?_
      refine aw_istore_n (i := 3) (q := 43) dX2_pass_42 rfl (by decide) rfl ?_
      have loop : ∀ k e, e + k = n → ∀ (μ1 : zM) (D f1 : Nat → Int32), zTP G μ1 m lam (setK (setK K' 8 D) 1 f1) (tDays P e) → zKp tTw μ μ1 → AW G 7 MX2_pass (tPub G μ m lam K (tPassC P R (nI n))) 0 0 43 [(0, .ref m), (1, .int (nI n)), (2, .int (tShowsIn P 1)), (3, .int (nI e))] [] μ1 := by
        intro k
        induction k with
        | zero =>
          intro e he μ1 D f1 hT hk
          have en : e = n := by omega
          subst en
          have hm := hT.m
          refine aw_iload_n (i := 3) (q := 44) dX2_pass_43 rfl rfl rfl ?_
          refine aw_iload_n (i := 1) (q := 45) dX2_pass_44 rfl rfl rfl ?_
          refine aw_icmp_ge (tgt := 58) (q := 48) dX2_pass_45 (by decide) rfl (fun _ => ?_) (fun hc => absurd (nI_le (by omega) (by omega)) hc)
          first | refine aw_aload_n (i := 0) (q := 59) dX2_pass_58 rfl rfl rfl ?_ | refine aw_aloadN_n (i := 0) (q := 59) dX2_pass_58 rfl rfl rfl ?_ | refine aw_aloadQ_n (i := 0) (q := 59) dX2_pass_58 rfl rfl rfl ?_
          refine aw_iconst (v := 1) (q := 60) dX2_pass_59 rfl rfl ?_
          refine aw_callV (q := 63) dX2_pass_60 (C2_showsIn hT) cv_X2_152_2 (by assumption) rfl rfl (by decide) (by decide) (by first | exact Nat.le_of_ble_eq_true rfl | simp [zcat_rf, Value.category]) rfl (zpk ?_)
          refine aw_iload_n (i := 2) (q := 64) dX2_pass_63 rfl rfl rfl ?_
          refine aw_isub (q := 65) dX2_pass_64 rfl ?_
          exact aw_ireturn dX2_pass_65 rfl (by first | rfl | exact zB_nar _) (tPub.of hT (hr.congr (fun _ _ => rfl) rfl rfl rfl rfl) (hf.tr ⟨rfl, fun _ _ => rfl⟩) hk e0)
        | succ k ih =>
          intro e he μ1 D f1 hT hk
          have hm := hT.m
          refine aw_iload_n (i := 3) (q := 44) dX2_pass_43 rfl rfl rfl ?_
          refine aw_iload_n (i := 1) (q := 45) dX2_pass_44 rfl rfl rfl ?_
          refine aw_icmp_ge (tgt := 58) (q := 48) dX2_pass_45 (by decide) rfl (fun hc => absurd hc (nI_ge (b := n) (a := e) (by omega) (by omega))) (fun _ => ?_)
          first | refine aw_aload_n (i := 0) (q := 49) dX2_pass_48 rfl rfl rfl ?_ | refine aw_aloadN_n (i := 0) (q := 49) dX2_pass_48 rfl rfl rfl ?_ | refine aw_aloadQ_n (i := 0) (q := 49) dX2_pass_48 rfl rfl rfl ?_
          refine aw_callV (q := 52) dX2_pass_49 (C2_passDay hT (tDays_inv hI.1 e)) cv_X2_155_2 (by assumption) rfl rfl (by decide) (by decide) (by first | exact Nat.le_of_ble_eq_true rfl | simp [zcat_rf, Value.category]) rfl (fun v49 μ2 hp => ?_)
          obtain ⟨rfl, ⟨f2, hT2⟩, hk2⟩ := hp
          rw [tDays_step, setK_comm _ _ _ (by decide : (1 : Nat) ≠ 8), setK_twice, setK_twice] at hT2
          refine aw_iinc (q := 55) dX2_pass_52 rfl (by first | exact nI_1 _ | rfl) (by decide) rfl ?_
          refine aw_goto (tgt := 43) dX2_pass_55 (by decide) ?_
          exact aw_locals (by exact ⟨rfl, rfl, rfl, rfl, trivial⟩) (ih (e + 1) (by omega) μ2 _ f2 hT2 (hk.tr hk2))
      exact aw_locals (by exact ⟨rfl, rfl, rfl, rfl, trivial⟩) (loop n 0 (by omega) μ1 (K' 8) (K' 1) (by show zTP G μ1 m lam (setK (setK K' 8 (K' 8)) 1 (K' 1)) P; rw [setK_self, setK_self]; exact hT) hk)
    · refine aw_bipush (v := (-5)) (q := 30) dX2_pass_28 rfl rfl ?_
      exact aw_ireturn dX2_pass_30 rfl (by first | rfl | exact zB_nar _) (tPub.same hS (by rw [tPassC, if_pos (zB_1 ha), if_neg hb]))
  · refine aw_bipush (v := (-2)) (q := 12) dX2_pass_10 rfl rfl ?_
    exact aw_ireturn dX2_pass_12 rfl (by first | rfl | exact zB_nar _) (tPub.same hS (if_neg (zB_0 ha)))
end ZTW17
