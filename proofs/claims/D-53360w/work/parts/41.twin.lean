/-! THE TWIN, part 2: readers with loops -/
set_option maxRecDepth 100000
theorem zB_0 {p : Prop} [Decidable p] (h : zB p = 0) : ¬ p := zB_ne.mp h
theorem zB_1 {p : Prop} [Decidable p] (h : ¬ zB p = 0) : p := Decidable.of_not_not (fun q => h (zB_ne.mpr q))
theorem zle {a b : Nat} (h : nI a ≤ nI b) (ha : a < 2 ^ 31) (hb : b < 2 ^ 31) : a ≤ b := (nI_leI ha hb).mp h
theorem znle {a b : Nat} (h : ¬ nI a ≤ nI b) (hb : b < 2 ^ 31) : b < a := Nat.lt_of_not_le fun q => h (nI_le q (by omega))
section ZTW2
variable {G : zG} {μ : zM} {m : Nat} {lam : Nat → Nat} {K : Nat → Nat → Int32} {P : zP}
theorem C2_bright {h l : Int32} (hl : l ≠ 0) : Meets G 1 MX2_bright [.int h, .int l] μ (zPure (.int (zBright l h)) μ) 0 0 := by
  refine meets_of (by decide +kernel) (Nat.le_of_ble_eq_true rfl) ?_
  refine aw_iload_n (i := 0) (q := 1) dX2_bright_0 rfl rfl rfl ?_
  refine aw_iload_n (i := 1) (q := 2) dX2_bright_1 rfl rfl rfl ?_
  refine aw_icmp_lt (tgt := 9) (q := 5) dX2_bright_2 (by decide) rfl (fun hc => ?_) (fun hc => ?_)
  · refine aw_bipush (v := 100) (q := 11) dX2_bright_9 rfl rfl ?_
    refine aw_bipush (v := 60) (q := 13) dX2_bright_11 rfl rfl ?_
    refine aw_iload_n (i := 0) (q := 14) dX2_bright_13 rfl rfl rfl ?_
    refine aw_imul (q := 15) dX2_bright_14 rfl ?_
    refine aw_iload_n (i := 1) (q := 16) dX2_bright_15 rfl rfl rfl ?_
    refine aw_idiv (q := 17) dX2_bright_16 (hl) rfl ?_
    refine aw_isub (q := 18) dX2_bright_17 rfl ?_
    exact aw_ireturn dX2_bright_18 rfl (by first | rfl | exact zB_nar _) (by refine ⟨?_, rfl⟩; simp only [zBright, if_pos hc])
  · refine aw_iconst (v := 0) (q := 6) dX2_bright_5 rfl rfl ?_
    refine aw_goto (tgt := 18) dX2_bright_6 (by decide) ?_
    exact aw_ireturn dX2_bright_18 rfl (by first | rfl | exact zB_nar _) (by refine ⟨?_, rfl⟩; simp only [zBright, if_neg hc])
theorem C2_brightOf {l : Nat} {x : Int32} (hT : zTP G μ m lam K P) (hx : x = nI l) (hl : l < 12) (h0 : P 2 l 0 ≠ 0) : Meets G 2 MX2_brightOf [.ref m, .int x] μ (zPure (.int (zBright (P 2 l 0) (P 2 l 1))) μ) 0 0 := by
  subst hx
  have hm := hT.m
  have h1 := hT.a1
  refine meets_of (by decide +kernel) (Nat.le_of_ble_eq_true rfl) ?_
  first | refine aw_aload_n (i := 0) (q := 1) dX2_brightOf_0 rfl rfl rfl ?_ | refine aw_aloadN_n (i := 0) (q := 1) dX2_brightOf_0 rfl rfl rfl ?_ | refine aw_aloadQ_n (i := 0) (q := 1) dX2_brightOf_0 rfl rfl rfl ?_
  refine aw_getfield (q := 4) dX2_brightOf_1 gf_X2_7_2 (by assumption) rfl rfl ?_
  refine aw_bipush (v := 50) (q := 6) dX2_brightOf_4 rfl rfl ?_
  refine aw_iconst (v := 4) (q := 7) dX2_brightOf_6 rfl rfl ?_
  refine aw_iload_n (i := 1) (q := 8) dX2_brightOf_7 rfl rfl rfl ?_
  refine aw_imul (q := 9) dX2_brightOf_8 rfl ?_
  refine aw_iadd (q := 10) dX2_brightOf_9 rfl ?_
  refine aw_iconst (v := 1) (q := 11) dX2_brightOf_10 rfl rfl ?_
  refine aw_iadd (q := 12) dX2_brightOf_11 rfl ?_
  refine aw_iald (q := 13) (v := P 2 l 1) (50 + 4 * l + 1) dX2_brightOf_12 (by assumption) (by first | assumption | (simp only [← nI_add, ← pk_mul]; rfl) | rfl) (by omega) (by omega) (hT.2.1.la (by omega) (by omega)) rfl ?_
  first | refine aw_aload_n (i := 0) (q := 14) dX2_brightOf_13 rfl rfl rfl ?_ | refine aw_aloadN_n (i := 0) (q := 14) dX2_brightOf_13 rfl rfl rfl ?_ | refine aw_aloadQ_n (i := 0) (q := 14) dX2_brightOf_13 rfl rfl rfl ?_
  refine aw_getfield (q := 17) dX2_brightOf_14 gf_X2_7_2 (by assumption) rfl rfl ?_
  refine aw_bipush (v := 50) (q := 19) dX2_brightOf_17 rfl rfl ?_
  refine aw_iconst (v := 4) (q := 20) dX2_brightOf_19 rfl rfl ?_
  refine aw_iload_n (i := 1) (q := 21) dX2_brightOf_20 rfl rfl rfl ?_
  refine aw_imul (q := 22) dX2_brightOf_21 rfl ?_
  refine aw_iadd (q := 23) dX2_brightOf_22 rfl ?_
  refine aw_iald (q := 24) (v := P 2 l 0) (50 + 4 * l) dX2_brightOf_23 (by assumption) (by first | assumption | (simp only [← nI_add, ← pk_mul]; rfl) | rfl) (by omega) (by omega) (hT.2.1.la (c := 0) (by omega) (by omega)) rfl ?_
  refine aw_callS (q := 27) dX2_brightOf_24 (C2_bright h0) cs_X2_60 rfl rfl (by decide) (by decide) (by first | exact Nat.le_of_ble_eq_true rfl | simp [zcat_rf, Value.category]) rfl (zpk ?_)
  exact aw_ireturn dX2_brightOf_27 rfl (by first | rfl | exact zB_nar _) (⟨rfl, rfl⟩)
theorem C2_eventAt {day slot : Int32} (hT : zTP G μ m lam K P) : Meets G 2 MX2_eventAt [.ref m, .int day, .int slot] μ (zPure (.int (tEventAt P day slot)) μ) 0 0 := by
  have hm := hT.m
  have h1 := hT.a1
  obtain ⟨hn, hN⟩ := hT.2.2.e
  refine meets_of (by decide +kernel) (Nat.le_of_ble_eq_true rfl) ?_
  refine aw_bipush (v := (-6)) (q := 2) dX2_eventAt_0 rfl rfl ?_
  refine aw_istore_n (i := 3) (q := 3) dX2_eventAt_2 rfl (by decide) rfl ?_
  refine aw_iconst (v := 0) (q := 4) dX2_eventAt_3 rfl rfl ?_
  refine aw_istore (q := 6) dX2_eventAt_4 (by decide) rfl ?_
  have loop : ∀ n e, e + n = pcn P 11 → AW G 2 MX2_eventAt (zPure (.int (tEventAt P day slot)) μ) 0 0 6 [(0, .ref m), (1, .int day), (2, .int slot), (3, .int (tEventAtF P day slot e)), (4, .int (nI e))] [] μ := by
    intro n
    induction n with
    | zero =>
      intro e he
      refine aw_iload (q := 8) dX2_eventAt_6 rfl rfl ?_
      first | refine aw_aload_n (i := 0) (q := 9) dX2_eventAt_8 rfl rfl rfl ?_ | refine aw_aloadN_n (i := 0) (q := 9) dX2_eventAt_8 rfl rfl rfl ?_ | refine aw_aloadQ_n (i := 0) (q := 9) dX2_eventAt_8 rfl rfl rfl ?_
      refine aw_getfield (q := 12) dX2_eventAt_9 gf_X2_7_2 (by assumption) rfl rfl ?_
      refine aw_bipush (v := 11) (q := 14) dX2_eventAt_12 rfl rfl ?_
      refine aw_iald (q := 15) (v := nI (pcn P 11)) (11) dX2_eventAt_14 (by assumption) (by first | assumption | (simp only [← nI_add, ← pk_mul]; rfl) | rfl) (by omega) (by omega) ((hT.2.1.g (by omega)).trans hn) rfl ?_
      refine aw_icmp_ge (tgt := 101) (q := 18) dX2_eventAt_15 (by decide) rfl (fun _ => ?_) (fun hc => absurd (nI_le (by omega) (by omega)) hc)
      refine aw_iload_n (i := 3) (q := 102) dX2_eventAt_101 rfl rfl rfl ?_
      exact aw_ireturn dX2_eventAt_102 rfl (by first | rfl | exact zB_nar _) (by refine ⟨?_, rfl⟩; rw [tEventAt, show pcn P 11 = e by omega])
    | succ n ih =>
      intro e he
      have hlt : e < pcn P 11 := by omega
      refine aw_iload (q := 8) dX2_eventAt_6 rfl rfl ?_
      first | refine aw_aload_n (i := 0) (q := 9) dX2_eventAt_8 rfl rfl rfl ?_ | refine aw_aloadN_n (i := 0) (q := 9) dX2_eventAt_8 rfl rfl rfl ?_ | refine aw_aloadQ_n (i := 0) (q := 9) dX2_eventAt_8 rfl rfl rfl ?_
      refine aw_getfield (q := 12) dX2_eventAt_9 gf_X2_7_2 (by assumption) rfl rfl ?_
      refine aw_bipush (v := 11) (q := 14) dX2_eventAt_12 rfl rfl ?_
      refine aw_iald (q := 15) (v := nI (pcn P 11)) (11) dX2_eventAt_14 (by assumption) (by first | assumption | (simp only [← nI_add, ← pk_mul]; rfl) | rfl) (by omega) (by omega) ((hT.2.1.g (by omega)).trans hn) rfl ?_
      refine aw_icmp_ge (tgt := 101) (q := 18) dX2_eventAt_15 (by decide) rfl (fun hc => absurd hc (nI_ge hlt (by omega))) (fun _ => ?_)
      refine aw_sipush (v := 1800) (q := 21) dX2_eventAt_18 rfl rfl ?_
      refine aw_iconst (v := 3) (q := 22) dX2_eventAt_21 rfl rfl ?_
      refine aw_iload (q := 24) dX2_eventAt_22 rfl rfl ?_
      refine aw_imul (q := 25) dX2_eventAt_24 rfl ?_
      refine aw_iadd (q := 26) dX2_eventAt_25 rfl ?_
      refine aw_istore (q := 28) dX2_eventAt_26 (by decide) rfl ?_
      first | refine aw_aload_n (i := 0) (q := 29) dX2_eventAt_28 rfl rfl rfl ?_ | refine aw_aloadN_n (i := 0) (q := 29) dX2_eventAt_28 rfl rfl rfl ?_ | refine aw_aloadQ_n (i := 0) (q := 29) dX2_eventAt_28 rfl rfl rfl ?_
      refine aw_getfield (q := 32) dX2_eventAt_29 gf_X2_7_2 (by assumption) rfl rfl ?_
      refine aw_iload (q := 34) dX2_eventAt_32 rfl rfl ?_
      refine aw_iald (q := 35) (v := P 5 e 0) (1800 + 3 * e) dX2_eventAt_34 (by assumption) (by first | assumption | (simp only [← nI_add, ← pk_mul]; rfl) | rfl) (by omega) (by omega) (hT.2.1.ev (c := 0) (by omega) (by omega)) rfl ?_
      refine aw_iload_n (i := 1) (q := 36) dX2_eventAt_35 rfl rfl rfl ?_
      refine aw_icmp_ne (tgt := 80) (q := 39) dX2_eventAt_36 (by decide) rfl (fun ha => ?_) (fun ha => ?_)
      · refine aw_iconst (v := 0) (q := 81) dX2_eventAt_80 rfl rfl ?_
        refine aw_istore (q := 83) dX2_eventAt_81 (by decide) rfl ?_
        refine aw_iload (q := 85) dX2_eventAt_83 rfl rfl ?_
        refine aw_if_eq (tgt := 93) (q := 88) dX2_eventAt_85 (by decide) rfl (fun _ => ?_) (fun hc => absurd (rfl) hc)
        refine aw_iload_n (i := 3) (q := 94) dX2_eventAt_93 rfl rfl rfl ?_
        refine aw_istore_n (i := 3) (q := 95) dX2_eventAt_94 rfl (by decide) rfl ?_
        refine aw_iinc (q := 98) dX2_eventAt_95 rfl (by first | exact nI_1 _ | rfl) (by decide) rfl ?_
        refine aw_goto (tgt := 6) dX2_eventAt_98 (by decide) ?_
        exact aw_locals (by exact ⟨rfl, rfl, rfl, by simp [tEventAtF, ha, zget, zput, zdel], rfl, trivial⟩) (ih (e + 1) (by omega))
      · refine aw_iload_n (i := 2) (q := 40) dX2_eventAt_39 rfl rfl rfl ?_
        first | refine aw_aload_n (i := 0) (q := 41) dX2_eventAt_40 rfl rfl rfl ?_ | refine aw_aloadN_n (i := 0) (q := 41) dX2_eventAt_40 rfl rfl rfl ?_ | refine aw_aloadQ_n (i := 0) (q := 41) dX2_eventAt_40 rfl rfl rfl ?_
        refine aw_getfield (q := 44) dX2_eventAt_41 gf_X2_7_2 (by assumption) rfl rfl ?_
        refine aw_iload (q := 46) dX2_eventAt_44 rfl rfl ?_
        refine aw_iconst (v := 1) (q := 47) dX2_eventAt_46 rfl rfl ?_
        refine aw_iadd (q := 48) dX2_eventAt_47 rfl ?_
        refine aw_iald (q := 49) (v := P 5 e 1) (1800 + 3 * e + 1) dX2_eventAt_48 (by assumption) (by first | assumption | (simp only [← nI_add, ← pk_mul]; rfl) | rfl) (by omega) (by omega) (hT.2.1.ev (by omega) (by omega)) rfl ?_
        first | refine aw_aload_n (i := 0) (q := 50) dX2_eventAt_49 rfl rfl rfl ?_ | refine aw_aloadN_n (i := 0) (q := 50) dX2_eventAt_49 rfl rfl rfl ?_ | refine aw_aloadQ_n (i := 0) (q := 50) dX2_eventAt_49 rfl rfl rfl ?_
        refine aw_getfield (q := 53) dX2_eventAt_50 gf_X2_7_2 (by assumption) rfl rfl ?_
        refine aw_iload (q := 55) dX2_eventAt_53 rfl rfl ?_
        refine aw_iconst (v := 1) (q := 56) dX2_eventAt_55 rfl rfl ?_
        refine aw_iadd (q := 57) dX2_eventAt_56 rfl ?_
        refine aw_iald (q := 58) (v := P 5 e 1) (1800 + 3 * e + 1) dX2_eventAt_57 (by assumption) (by first | assumption | (simp only [← nI_add, ← pk_mul]; rfl) | rfl) (by omega) (by omega) (hT.2.1.ev (by omega) (by omega)) rfl ?_
        first | refine aw_aload_n (i := 0) (q := 59) dX2_eventAt_58 rfl rfl rfl ?_ | refine aw_aloadN_n (i := 0) (q := 59) dX2_eventAt_58 rfl rfl rfl ?_ | refine aw_aloadQ_n (i := 0) (q := 59) dX2_eventAt_58 rfl rfl rfl ?_
        refine aw_getfield (q := 62) dX2_eventAt_59 gf_X2_7_2 (by assumption) rfl rfl ?_
        refine aw_iload (q := 64) dX2_eventAt_62 rfl rfl ?_
        refine aw_iconst (v := 2) (q := 65) dX2_eventAt_64 rfl rfl ?_
        refine aw_iadd (q := 66) dX2_eventAt_65 rfl ?_
        refine aw_iald (q := 67) (v := P 5 e 2) (1800 + 3 * e + 2) dX2_eventAt_66 (by assumption) (by first | assumption | (simp only [← nI_add, ← pk_mul]; rfl) | rfl) (by omega) (by omega) (hT.2.1.ev (by omega) (by omega)) rfl ?_
        refine aw_iadd (q := 68) dX2_eventAt_67 rfl ?_
        refine aw_iconst (v := 1) (q := 69) dX2_eventAt_68 rfl rfl ?_
        refine aw_isub (q := 70) dX2_eventAt_69 rfl ?_
        refine aw_callS (q := 73) dX2_eventAt_70 (C2_in) cs_X2_49 rfl rfl (by decide) (by decide) (by first | exact Nat.le_of_ble_eq_true rfl | simp [zcat_rf, Value.category]) rfl (zpk ?_)
        refine aw_if_eq (tgt := 80) (q := 76) dX2_eventAt_73 (by decide) rfl (fun hb => ?_) (fun hb => ?_)
        · refine aw_iconst (v := 0) (q := 81) dX2_eventAt_80 rfl rfl ?_
          refine aw_istore (q := 83) dX2_eventAt_81 (by decide) rfl ?_
          refine aw_iload (q := 85) dX2_eventAt_83 rfl rfl ?_
          refine aw_if_eq (tgt := 93) (q := 88) dX2_eventAt_85 (by decide) rfl (fun _ => ?_) (fun hc => absurd (rfl) hc)
          refine aw_iload_n (i := 3) (q := 94) dX2_eventAt_93 rfl rfl rfl ?_
          refine aw_istore_n (i := 3) (q := 95) dX2_eventAt_94 rfl (by decide) rfl ?_
          refine aw_iinc (q := 98) dX2_eventAt_95 rfl (by first | exact nI_1 _ | rfl) (by decide) rfl ?_
          refine aw_goto (tgt := 6) dX2_eventAt_98 (by decide) ?_
          exact aw_locals (by exact ⟨rfl, rfl, rfl, by simp only [tEventAtF]; rw [if_neg (fun h => zB_0 hb h.2)]; rfl, rfl, trivial⟩) (ih (e + 1) (by omega))
        · refine aw_iconst (v := 1) (q := 77) dX2_eventAt_76 rfl rfl ?_
          refine aw_goto (tgt := 81) dX2_eventAt_77 (by decide) ?_
          refine aw_istore (q := 83) dX2_eventAt_81 (by decide) rfl ?_
          refine aw_iload (q := 85) dX2_eventAt_83 rfl rfl ?_
          refine aw_if_eq (tgt := 93) (q := 88) dX2_eventAt_85 (by decide) rfl (fun hc => absurd hc ((by decide))) (fun _ => ?_)
          refine aw_iload (q := 90) dX2_eventAt_88 rfl rfl ?_
          refine aw_goto (tgt := 94) dX2_eventAt_90 (by decide) ?_
          refine aw_istore_n (i := 3) (q := 95) dX2_eventAt_94 rfl (by decide) rfl ?_
          refine aw_iinc (q := 98) dX2_eventAt_95 rfl (by first | exact nI_1 _ | rfl) (by decide) rfl ?_
          refine aw_goto (tgt := 6) dX2_eventAt_98 (by decide) ?_
          exact aw_locals (by exact ⟨rfl, rfl, rfl, by simp only [tEventAtF]; rw [if_pos ⟨ha, zB_1 hb⟩]; rfl, rfl, trivial⟩) (ih (e + 1) (by omega))
  exact aw_locals (by exact ⟨rfl, rfl, rfl, rfl, rfl, trivial⟩) (loop (pcn P 11) 0 (by omega))
theorem C2_plannedAt {day slot : Int32} (hT : zTP G μ m lam K P) : Meets G 2 MX2_plannedAt [.ref m, .int day, .int slot] μ (zPure (.int (tPlannedAt P day slot)) μ) 0 0 := by
  have hm := hT.m
  have h1 := hT.a1
  obtain ⟨hn, hN⟩ := hT.2.2.s
  refine meets_of (by decide +kernel) (Nat.le_of_ble_eq_true rfl) ?_
  refine aw_bipush (v := (-6)) (q := 2) dX2_plannedAt_0 rfl rfl ?_
  refine aw_istore_n (i := 3) (q := 3) dX2_plannedAt_2 rfl (by decide) rfl ?_
  refine aw_iconst (v := 0) (q := 4) dX2_plannedAt_3 rfl rfl ?_
  refine aw_istore (q := 6) dX2_plannedAt_4 (by decide) rfl ?_
  have loop : ∀ n e, e + n = pcn P 9 → AW G 2 MX2_plannedAt (zPure (.int (tPlannedAt P day slot)) μ) 0 0 6 [(0, .ref m), (1, .int day), (2, .int slot), (3, .int (tPlannedAtF P day slot e)), (4, .int (nI e))] [] μ := by
    intro n
    induction n with
    | zero =>
      intro e he
      refine aw_iload (q := 8) dX2_plannedAt_6 rfl rfl ?_
      first | refine aw_aload_n (i := 0) (q := 9) dX2_plannedAt_8 rfl rfl rfl ?_ | refine aw_aloadN_n (i := 0) (q := 9) dX2_plannedAt_8 rfl rfl rfl ?_ | refine aw_aloadQ_n (i := 0) (q := 9) dX2_plannedAt_8 rfl rfl rfl ?_
      refine aw_getfield (q := 12) dX2_plannedAt_9 gf_X2_7_2 (by assumption) rfl rfl ?_
      refine aw_bipush (v := 9) (q := 14) dX2_plannedAt_12 rfl rfl ?_
      refine aw_iald (q := 15) (v := nI (pcn P 9)) (9) dX2_plannedAt_14 (by assumption) (by first | assumption | (simp only [← nI_add, ← pk_mul]; rfl) | rfl) (by omega) (by omega) ((hT.2.1.g (by omega)).trans hn) rfl ?_
      refine aw_icmp_ge (tgt := 63) (q := 18) dX2_plannedAt_15 (by decide) rfl (fun _ => ?_) (fun hc => absurd (nI_le (by omega) (by omega)) hc)
      refine aw_iload_n (i := 3) (q := 64) dX2_plannedAt_63 rfl rfl rfl ?_
      exact aw_ireturn dX2_plannedAt_64 rfl (by first | rfl | exact zB_nar _) (by refine ⟨?_, rfl⟩; rw [tPlannedAt, show pcn P 9 = e by omega])
    | succ n ih =>
      intro e he
      have hlt : e < pcn P 9 := by omega
      refine aw_iload (q := 8) dX2_plannedAt_6 rfl rfl ?_
      first | refine aw_aload_n (i := 0) (q := 9) dX2_plannedAt_8 rfl rfl rfl ?_ | refine aw_aloadN_n (i := 0) (q := 9) dX2_plannedAt_8 rfl rfl rfl ?_ | refine aw_aloadQ_n (i := 0) (q := 9) dX2_plannedAt_8 rfl rfl rfl ?_
      refine aw_getfield (q := 12) dX2_plannedAt_9 gf_X2_7_2 (by assumption) rfl rfl ?_
      refine aw_bipush (v := 9) (q := 14) dX2_plannedAt_12 rfl rfl ?_
      refine aw_iald (q := 15) (v := nI (pcn P 9)) (9) dX2_plannedAt_14 (by assumption) (by first | assumption | (simp only [← nI_add, ← pk_mul]; rfl) | rfl) (by omega) (by omega) ((hT.2.1.g (by omega)).trans hn) rfl ?_
      refine aw_icmp_ge (tgt := 63) (q := 18) dX2_plannedAt_15 (by decide) rfl (fun hc => absurd hc (nI_ge hlt (by omega))) (fun _ => ?_)
      first | refine aw_aload_n (i := 0) (q := 19) dX2_plannedAt_18 rfl rfl rfl ?_ | refine aw_aloadN_n (i := 0) (q := 19) dX2_plannedAt_18 rfl rfl rfl ?_ | refine aw_aloadQ_n (i := 0) (q := 19) dX2_plannedAt_18 rfl rfl rfl ?_
      refine aw_iload (q := 21) dX2_plannedAt_19 rfl rfl ?_
      refine aw_iconst (v := 3) (q := 22) dX2_plannedAt_21 rfl rfl ?_
      refine aw_callV (q := 25) dX2_plannedAt_22 (C2_ofShow (c := 3) hT rfl rfl (by omega) (by omega)) cv_X2_75_2 (by assumption) rfl rfl (by decide) (by decide) (by first | exact Nat.le_of_ble_eq_true rfl | simp [zcat_rf, Value.category]) rfl (zpk ?_)
      refine aw_if_ne (tgt := 55) (q := 28) dX2_plannedAt_25 (by decide) rfl (fun ha => ?_) (fun ha => ?_)
      · refine aw_iload_n (i := 3) (q := 56) dX2_plannedAt_55 rfl rfl rfl ?_
        refine aw_istore_n (i := 3) (q := 57) dX2_plannedAt_56 rfl (by decide) rfl ?_
        refine aw_iinc (q := 60) dX2_plannedAt_57 rfl (by first | exact nI_1 _ | rfl) (by decide) rfl ?_
        refine aw_goto (tgt := 6) dX2_plannedAt_60 (by decide) ?_
        exact aw_locals (by exact ⟨rfl, rfl, rfl, by simp only [tPlannedAtF]; rw [if_neg (fun h => ha h.1)]; rfl, rfl, trivial⟩) (ih (e + 1) (by omega))
      · first | refine aw_aload_n (i := 0) (q := 29) dX2_plannedAt_28 rfl rfl rfl ?_ | refine aw_aloadN_n (i := 0) (q := 29) dX2_plannedAt_28 rfl rfl rfl ?_ | refine aw_aloadQ_n (i := 0) (q := 29) dX2_plannedAt_28 rfl rfl rfl ?_
        refine aw_iload (q := 31) dX2_plannedAt_29 rfl rfl ?_
        refine aw_iconst (v := 1) (q := 32) dX2_plannedAt_31 rfl rfl ?_
        refine aw_callV (q := 35) dX2_plannedAt_32 (C2_ofShow (c := 1) hT rfl rfl (by omega) (by omega)) cv_X2_75_2 (by assumption) rfl rfl (by decide) (by decide) (by first | exact Nat.le_of_ble_eq_true rfl | simp [zcat_rf, Value.category]) rfl (zpk ?_)
        refine aw_iload_n (i := 1) (q := 36) dX2_plannedAt_35 rfl rfl rfl ?_
        refine aw_icmp_ne (tgt := 55) (q := 39) dX2_plannedAt_36 (by decide) rfl (fun hb => ?_) (fun hb => ?_)
        · refine aw_iload_n (i := 3) (q := 56) dX2_plannedAt_55 rfl rfl rfl ?_
          refine aw_istore_n (i := 3) (q := 57) dX2_plannedAt_56 rfl (by decide) rfl ?_
          refine aw_iinc (q := 60) dX2_plannedAt_57 rfl (by first | exact nI_1 _ | rfl) (by decide) rfl ?_
          refine aw_goto (tgt := 6) dX2_plannedAt_60 (by decide) ?_
          exact aw_locals (by exact ⟨rfl, rfl, rfl, by simp only [tPlannedAtF]; rw [if_neg (fun h => hb h.2.1)]; rfl, rfl, trivial⟩) (ih (e + 1) (by omega))
        · first | refine aw_aload_n (i := 0) (q := 40) dX2_plannedAt_39 rfl rfl rfl ?_ | refine aw_aloadN_n (i := 0) (q := 40) dX2_plannedAt_39 rfl rfl rfl ?_ | refine aw_aloadQ_n (i := 0) (q := 40) dX2_plannedAt_39 rfl rfl rfl ?_
          refine aw_iload (q := 42) dX2_plannedAt_40 rfl rfl ?_
          refine aw_iconst (v := 2) (q := 43) dX2_plannedAt_42 rfl rfl ?_
          refine aw_callV (q := 46) dX2_plannedAt_43 (C2_ofShow (c := 2) hT rfl rfl (by omega) (by omega)) cv_X2_75_2 (by assumption) rfl rfl (by decide) (by decide) (by first | exact Nat.le_of_ble_eq_true rfl | simp [zcat_rf, Value.category]) rfl (zpk ?_)
          refine aw_iload_n (i := 2) (q := 47) dX2_plannedAt_46 rfl rfl rfl ?_
          refine aw_icmp_ne (tgt := 55) (q := 50) dX2_plannedAt_47 (by decide) rfl (fun hc => ?_) (fun hc => ?_)
          · refine aw_iload_n (i := 3) (q := 56) dX2_plannedAt_55 rfl rfl rfl ?_
            refine aw_istore_n (i := 3) (q := 57) dX2_plannedAt_56 rfl (by decide) rfl ?_
            refine aw_iinc (q := 60) dX2_plannedAt_57 rfl (by first | exact nI_1 _ | rfl) (by decide) rfl ?_
            refine aw_goto (tgt := 6) dX2_plannedAt_60 (by decide) ?_
            exact aw_locals (by exact ⟨rfl, rfl, rfl, by simp only [tPlannedAtF]; rw [if_neg (fun h => hc h.2.2)]; rfl, rfl, trivial⟩) (ih (e + 1) (by omega))
          · refine aw_iload (q := 52) dX2_plannedAt_50 rfl rfl ?_
            refine aw_goto (tgt := 56) dX2_plannedAt_52 (by decide) ?_
            refine aw_istore_n (i := 3) (q := 57) dX2_plannedAt_56 rfl (by decide) rfl ?_
            refine aw_iinc (q := 60) dX2_plannedAt_57 rfl (by first | exact nI_1 _ | rfl) (by decide) rfl ?_
            refine aw_goto (tgt := 6) dX2_plannedAt_60 (by decide) ?_
            exact aw_locals (by exact ⟨rfl, rfl, rfl, by simp only [tPlannedAtF]; rw [if_pos ⟨ha, hb, hc⟩]; rfl, rfl, trivial⟩) (ih (e + 1) (by omega))
  exact aw_locals (by exact ⟨rfl, rfl, rfl, rfl, rfl, trivial⟩) (loop (pcn P 9) 0 (by omega))
theorem C2_isFree {day slot : Int32} (hT : zTP G μ m lam K P) : Meets G 3 MX2_isFree [.ref m, .int day, .int slot] μ (zPure (.int (zB (tEventAt P day slot < 0 ∧ tPlannedAt P day slot < 0))) μ) 0 0 := by
  have hm := hT.m
  refine meets_of (by decide +kernel) (Nat.le_of_ble_eq_true rfl) ?_
  first | refine aw_aload_n (i := 0) (q := 1) dX2_isFree_0 rfl rfl rfl ?_ | refine aw_aloadN_n (i := 0) (q := 1) dX2_isFree_0 rfl rfl rfl ?_ | refine aw_aloadQ_n (i := 0) (q := 1) dX2_isFree_0 rfl rfl rfl ?_
  refine aw_iload_n (i := 1) (q := 2) dX2_isFree_1 rfl rfl rfl ?_
  refine aw_iload_n (i := 2) (q := 3) dX2_isFree_2 rfl rfl rfl ?_
  refine aw_callV (q := 6) dX2_isFree_3 (C2_eventAt hT) cv_X2_78_2 (by assumption) rfl rfl (by decide) (by decide) (by first | exact Nat.le_of_ble_eq_true rfl | simp [zcat_rf, Value.category]) rfl (zpk ?_)
  refine aw_if_ge (tgt := 22) (q := 9) dX2_isFree_6 (by decide) rfl (fun ha => ?_) (fun ha => ?_)
  · refine aw_iconst (v := 0) (q := 23) dX2_isFree_22 rfl rfl ?_
    exact aw_ireturn dX2_isFree_23 rfl (by first | rfl | exact zB_nar _) (by refine ⟨?_, rfl⟩; rw [zB_f (fun h => absurd h.1 (Int32.not_lt.mpr ha))])
  · first | refine aw_aload_n (i := 0) (q := 10) dX2_isFree_9 rfl rfl rfl ?_ | refine aw_aloadN_n (i := 0) (q := 10) dX2_isFree_9 rfl rfl rfl ?_ | refine aw_aloadQ_n (i := 0) (q := 10) dX2_isFree_9 rfl rfl rfl ?_
    refine aw_iload_n (i := 1) (q := 11) dX2_isFree_10 rfl rfl rfl ?_
    refine aw_iload_n (i := 2) (q := 12) dX2_isFree_11 rfl rfl rfl ?_
    refine aw_callV (q := 15) dX2_isFree_12 (C2_plannedAt hT) cv_X2_81_2 (by assumption) rfl rfl (by decide) (by decide) (by first | exact Nat.le_of_ble_eq_true rfl | simp [zcat_rf, Value.category]) rfl (zpk ?_)
    refine aw_if_ge (tgt := 22) (q := 18) dX2_isFree_15 (by decide) rfl (fun hb => ?_) (fun hb => ?_)
    · refine aw_iconst (v := 0) (q := 23) dX2_isFree_22 rfl rfl ?_
      exact aw_ireturn dX2_isFree_23 rfl (by first | rfl | exact zB_nar _) (by refine ⟨?_, rfl⟩; rw [zB_f (fun h => absurd h.2 (Int32.not_lt.mpr hb))])
    · refine aw_iconst (v := 1) (q := 19) dX2_isFree_18 rfl rfl ?_
      refine aw_goto (tgt := 23) dX2_isFree_19 (by decide) ?_
      exact aw_ireturn dX2_isFree_23 rfl (by first | rfl | exact zB_nar _) (by refine ⟨?_, rfl⟩; rw [zB_t ⟨Int32.not_le.mp ha, Int32.not_le.mp hb⟩])
theorem C2_freeIn {sh : Int32} {row : Nat} {y : Int32} (hT : zTP G μ m lam K P) (hy : y = nI row) (hr : row < 8) : Meets G 2 MX2_freeIn [.ref m, .int sh, .int y] μ (zPure (.int (tFreeIn P sh row)) μ) 0 0 := by
  subst hy
  have hm := hT.m
  have h1 := hT.a1
  obtain ⟨hn, hN⟩ := hT.2.2.b
  refine meets_of (by decide +kernel) (Nat.le_of_ble_eq_true rfl) ?_
  refine aw_bipush (v := 12) (q := 2) dX2_freeIn_0 rfl rfl ?_
  refine aw_istore_n (i := 3) (q := 3) dX2_freeIn_2 rfl (by decide) rfl ?_
  refine aw_iconst (v := 0) (q := 4) dX2_freeIn_3 rfl rfl ?_
  refine aw_istore (q := 6) dX2_freeIn_4 (by decide) rfl ?_
  have loop : ∀ n e, e + n = pcn P 10 → AW G 2 MX2_freeIn (zPure (.int (tFreeIn P sh row)) μ) 0 0 6 [(0, .ref m), (1, .int sh), (2, .int (nI row)), (3, .int (tFreeInF P sh row e)), (4, .int (nI e))] [] μ := by
    intro n
    induction n with
    | zero =>
      intro e he
      refine aw_iload (q := 8) dX2_freeIn_6 rfl rfl ?_
      first | refine aw_aload_n (i := 0) (q := 9) dX2_freeIn_8 rfl rfl rfl ?_ | refine aw_aloadN_n (i := 0) (q := 9) dX2_freeIn_8 rfl rfl rfl ?_ | refine aw_aloadQ_n (i := 0) (q := 9) dX2_freeIn_8 rfl rfl rfl ?_
      refine aw_getfield (q := 12) dX2_freeIn_9 gf_X2_7_2 (by assumption) rfl rfl ?_
      refine aw_bipush (v := 10) (q := 14) dX2_freeIn_12 rfl rfl ?_
      refine aw_iald (q := 15) (v := nI (pcn P 10)) (10) dX2_freeIn_14 (by assumption) (by first | assumption | (simp only [← nI_add, ← pk_mul]; rfl) | rfl) (by omega) (by omega) ((hT.2.1.g (by omega)).trans hn) rfl ?_
      refine aw_icmp_ge (tgt := 52) (q := 18) dX2_freeIn_15 (by decide) rfl (fun _ => ?_) (fun hc => absurd (nI_le (by omega) (by omega)) hc)
      refine aw_iload_n (i := 3) (q := 53) dX2_freeIn_52 rfl rfl rfl ?_
      exact aw_ireturn dX2_freeIn_53 rfl (by first | rfl | exact zB_nar _) (by refine ⟨?_, rfl⟩; rw [tFreeIn, show pcn P 10 = e by omega])
    | succ n ih =>
      intro e he
      have hlt : e < pcn P 10 := by omega
      refine aw_iload (q := 8) dX2_freeIn_6 rfl rfl ?_
      first | refine aw_aload_n (i := 0) (q := 9) dX2_freeIn_8 rfl rfl rfl ?_ | refine aw_aloadN_n (i := 0) (q := 9) dX2_freeIn_8 rfl rfl rfl ?_ | refine aw_aloadQ_n (i := 0) (q := 9) dX2_freeIn_8 rfl rfl rfl ?_
      refine aw_getfield (q := 12) dX2_freeIn_9 gf_X2_7_2 (by assumption) rfl rfl ?_
      refine aw_bipush (v := 10) (q := 14) dX2_freeIn_12 rfl rfl ?_
      refine aw_iald (q := 15) (v := nI (pcn P 10)) (10) dX2_freeIn_14 (by assumption) (by first | assumption | (simp only [← nI_add, ← pk_mul]; rfl) | rfl) (by omega) (by omega) ((hT.2.1.g (by omega)).trans hn) rfl ?_
      refine aw_icmp_ge (tgt := 52) (q := 18) dX2_freeIn_15 (by decide) rfl (fun hc => absurd hc (nI_ge hlt (by omega))) (fun _ => ?_)
      refine aw_iload_n (i := 3) (q := 19) dX2_freeIn_18 rfl rfl rfl ?_
      first | refine aw_aload_n (i := 0) (q := 20) dX2_freeIn_19 rfl rfl rfl ?_ | refine aw_aloadN_n (i := 0) (q := 20) dX2_freeIn_19 rfl rfl rfl ?_ | refine aw_aloadQ_n (i := 0) (q := 20) dX2_freeIn_19 rfl rfl rfl ?_
      refine aw_iload (q := 22) dX2_freeIn_20 rfl rfl ?_
      refine aw_iconst (v := 0) (q := 23) dX2_freeIn_22 rfl rfl ?_
      refine aw_callV (q := 26) dX2_freeIn_23 (C2_ofBooking (c := 0) hT rfl rfl (by omega) (by omega)) cv_X2_88_2 (by assumption) rfl rfl (by decide) (by decide) (by first | exact Nat.le_of_ble_eq_true rfl | simp [zcat_rf, Value.category]) rfl (zpk ?_)
      refine aw_iload_n (i := 1) (q := 27) dX2_freeIn_26 rfl rfl rfl ?_
      refine aw_icmp_ne (tgt := 43) (q := 30) dX2_freeIn_27 (by decide) rfl (fun ha => ?_) (fun ha => ?_)
      · refine aw_iconst (v := 0) (q := 44) dX2_freeIn_43 rfl rfl ?_
        refine aw_isub (q := 45) dX2_freeIn_44 rfl ?_
        refine aw_istore_n (i := 3) (q := 46) dX2_freeIn_45 rfl (by decide) rfl ?_
        refine aw_iinc (q := 49) dX2_freeIn_46 rfl (by first | exact nI_1 _ | rfl) (by decide) rfl ?_
        refine aw_goto (tgt := 6) dX2_freeIn_49 (by decide) ?_
        exact aw_locals (by exact ⟨rfl, rfl, rfl, by simp only [tFreeInF]; rw [if_neg ha]; rfl, rfl, trivial⟩) (ih (e + 1) (by omega))
      · first | refine aw_aload_n (i := 0) (q := 31) dX2_freeIn_30 rfl rfl rfl ?_ | refine aw_aloadN_n (i := 0) (q := 31) dX2_freeIn_30 rfl rfl rfl ?_ | refine aw_aloadQ_n (i := 0) (q := 31) dX2_freeIn_30 rfl rfl rfl ?_
        refine aw_iload (q := 33) dX2_freeIn_31 rfl rfl ?_
        refine aw_bipush (v := 8) (q := 35) dX2_freeIn_33 rfl rfl ?_
        refine aw_iload_n (i := 2) (q := 36) dX2_freeIn_35 rfl rfl rfl ?_
        refine aw_iadd (q := 37) dX2_freeIn_36 rfl ?_
        refine aw_callV (q := 40) dX2_freeIn_37 (C2_ofBooking (c := 8 + row) hT rfl (by rw [← nI_add]; rfl) (by omega) (by omega)) cv_X2_88_2 (by assumption) rfl rfl (by decide) (by decide) (by first | exact Nat.le_of_ble_eq_true rfl | simp [zcat_rf, Value.category]) rfl (zpk ?_)
        refine aw_goto (tgt := 44) dX2_freeIn_40 (by decide) ?_
        refine aw_isub (q := 45) dX2_freeIn_44 rfl ?_
        refine aw_istore_n (i := 3) (q := 46) dX2_freeIn_45 rfl (by decide) rfl ?_
        refine aw_iinc (q := 49) dX2_freeIn_46 rfl (by first | exact nI_1 _ | rfl) (by decide) rfl ?_
        refine aw_goto (tgt := 6) dX2_freeIn_49 (by decide) ?_
        exact aw_locals (by exact ⟨rfl, rfl, rfl, by simp only [tFreeInF]; rw [if_pos ha]; rfl, rfl, trivial⟩) (ih (e + 1) (by omega))
  exact aw_locals (by exact ⟨rfl, rfl, rfl, rfl, rfl, trivial⟩) (loop (pcn P 10) 0 (by omega))
theorem C2_takenOf {sh : Int32} (hT : zTP G μ m lam K P) : Meets G 3 MX2_takenOf [.ref m, .int sh] μ (zPure (.int (tTaken P sh)) μ) 0 0 := by
  have hm := hT.m
  refine meets_of (by decide +kernel) (Nat.le_of_ble_eq_true rfl) ?_
  refine aw_iconst (v := 0) (q := 1) dX2_takenOf_0 rfl rfl ?_
  refine aw_istore_n (i := 2) (q := 2) dX2_takenOf_1 rfl (by decide) rfl ?_
  refine aw_iconst (v := 0) (q := 3) dX2_takenOf_2 rfl rfl ?_
  refine aw_istore_n (i := 3) (q := 4) dX2_takenOf_3 rfl (by decide) rfl ?_
  have loop : ∀ n e, e + n = 8 → AW G 3 MX2_takenOf (zPure (.int (tTaken P sh)) μ) 0 0 4 [(0, .ref m), (1, .int sh), (2, .int (tSumR (tFreeIn P sh) e)), (3, .int (nI e))] [] μ := by
    intro n
    induction n with
    | zero =>
      intro e he
      refine aw_iload_n (i := 3) (q := 5) dX2_takenOf_4 rfl rfl rfl ?_
      refine aw_bipush (v := 8) (q := 7) dX2_takenOf_5 rfl rfl ?_
      refine aw_icmp_ge (tgt := 25) (q := 10) dX2_takenOf_7 (by decide) rfl (fun _ => ?_) (fun hc => absurd (nI_le (a := 8) (by omega) (by omega)) hc)
      refine aw_bipush (v := 96) (q := 27) dX2_takenOf_25 rfl rfl ?_
      refine aw_iload_n (i := 2) (q := 28) dX2_takenOf_27 rfl rfl rfl ?_
      refine aw_isub (q := 29) dX2_takenOf_28 rfl ?_
      exact aw_ireturn dX2_takenOf_29 rfl (by first | rfl | exact zB_nar _) (by refine ⟨?_, rfl⟩; rw [tTaken, show e = 8 by omega])
    | succ n ih =>
      intro e he
      refine aw_iload_n (i := 3) (q := 5) dX2_takenOf_4 rfl rfl rfl ?_
      refine aw_bipush (v := 8) (q := 7) dX2_takenOf_5 rfl rfl ?_
      refine aw_icmp_ge (tgt := 25) (q := 10) dX2_takenOf_7 (by decide) rfl (fun hc => absurd hc (nI_ge (b := 8) (a := e) (by omega) (by omega))) (fun _ => ?_)
      refine aw_iload_n (i := 2) (q := 11) dX2_takenOf_10 rfl rfl rfl ?_
      first | refine aw_aload_n (i := 0) (q := 12) dX2_takenOf_11 rfl rfl rfl ?_ | refine aw_aloadN_n (i := 0) (q := 12) dX2_takenOf_11 rfl rfl rfl ?_ | refine aw_aloadQ_n (i := 0) (q := 12) dX2_takenOf_11 rfl rfl rfl ?_
      refine aw_iload_n (i := 1) (q := 13) dX2_takenOf_12 rfl rfl rfl ?_
      refine aw_iload_n (i := 3) (q := 14) dX2_takenOf_13 rfl rfl rfl ?_
      refine aw_callV (q := 17) dX2_takenOf_14 (C2_freeIn hT rfl (by omega)) cv_X2_91_2 (by assumption) rfl rfl (by decide) (by decide) (by first | exact Nat.le_of_ble_eq_true rfl | simp [zcat_rf, Value.category]) rfl (zpk ?_)
      refine aw_iadd (q := 18) dX2_takenOf_17 rfl ?_
      refine aw_istore_n (i := 2) (q := 19) dX2_takenOf_18 rfl (by decide) rfl ?_
      refine aw_iinc (q := 22) dX2_takenOf_19 rfl (by first | exact nI_1 _ | rfl) (by decide) rfl ?_
      refine aw_goto (tgt := 4) dX2_takenOf_22 (by decide) ?_
      exact aw_locals (by exact ⟨rfl, rfl, rfl, rfl, trivial⟩) (ih (e + 1) (by omega))
  exact aw_locals (by exact ⟨rfl, rfl, rfl, rfl, trivial⟩) (loop 8 0 (by omega))
theorem C2_canBook {s : Nat} {x y : Int32} (hT : zTP G μ m lam K P) (hx : x = nI s) (hs : s < 60) : Meets G 4 MX2_canBook [.ref m, .int x, .int y] μ (zPure (.int (zB (P 3 s 3 = 0 ∧ tTaken P (nI s) + y ≤ 96))) μ) 0 0 := by
  subst hx
  have hm := hT.m
  refine meets_of (by decide +kernel) (Nat.le_of_ble_eq_true rfl) ?_
  first | refine aw_aload_n (i := 0) (q := 1) dX2_canBook_0 rfl rfl rfl ?_ | refine aw_aloadN_n (i := 0) (q := 1) dX2_canBook_0 rfl rfl rfl ?_ | refine aw_aloadQ_n (i := 0) (q := 1) dX2_canBook_0 rfl rfl rfl ?_
  refine aw_iload_n (i := 1) (q := 2) dX2_canBook_1 rfl rfl rfl ?_
  refine aw_iconst (v := 3) (q := 3) dX2_canBook_2 rfl rfl ?_
  refine aw_callV (q := 6) dX2_canBook_3 (C2_ofShow (c := 3) hT rfl rfl (by omega) (by omega)) cv_X2_75_2 (by assumption) rfl rfl (by decide) (by decide) (by first | exact Nat.le_of_ble_eq_true rfl | simp [zcat_rf, Value.category]) rfl (zpk ?_)
  refine aw_if_ne (tgt := 25) (q := 9) dX2_canBook_6 (by decide) rfl (fun ha => ?_) (fun ha => ?_)
  · refine aw_iconst (v := 0) (q := 26) dX2_canBook_25 rfl rfl ?_
    exact aw_ireturn dX2_canBook_26 rfl (by first | rfl | exact zB_nar _) (by refine ⟨?_, rfl⟩; rw [zB_f (fun h => ha h.1)])
  · first | refine aw_aload_n (i := 0) (q := 10) dX2_canBook_9 rfl rfl rfl ?_ | refine aw_aloadN_n (i := 0) (q := 10) dX2_canBook_9 rfl rfl rfl ?_ | refine aw_aloadQ_n (i := 0) (q := 10) dX2_canBook_9 rfl rfl rfl ?_
    refine aw_iload_n (i := 1) (q := 11) dX2_canBook_10 rfl rfl rfl ?_
    refine aw_callV (q := 14) dX2_canBook_11 (C2_takenOf hT) cv_X2_94_2 (by assumption) rfl rfl (by decide) (by decide) (by first | exact Nat.le_of_ble_eq_true rfl | simp [zcat_rf, Value.category]) rfl (zpk ?_)
    refine aw_iload_n (i := 2) (q := 15) dX2_canBook_14 rfl rfl rfl ?_
    refine aw_iadd (q := 16) dX2_canBook_15 rfl ?_
    refine aw_bipush (v := 96) (q := 18) dX2_canBook_16 rfl rfl ?_
    refine aw_icmp_gt (tgt := 25) (q := 21) dX2_canBook_18 (by decide) rfl (fun hb => ?_) (fun hb => ?_)
    · refine aw_iconst (v := 0) (q := 26) dX2_canBook_25 rfl rfl ?_
      exact aw_ireturn dX2_canBook_26 rfl (by first | rfl | exact zB_nar _) (by refine ⟨?_, rfl⟩; rw [zB_f (fun h => absurd h.2 (Int32.not_le.mpr hb))])
    · refine aw_iconst (v := 1) (q := 22) dX2_canBook_21 rfl rfl ?_
      refine aw_goto (tgt := 26) dX2_canBook_22 (by decide) ?_
      exact aw_ireturn dX2_canBook_26 rfl (by first | rfl | exact zB_nar _) (by refine ⟨?_, rfl⟩; rw [zB_t ⟨ha, Int32.not_lt.mp hb⟩])
end ZTW2
