/-! THE PROGRAMME: the brightest spare lamp, the lamp for a show -/
set_option maxRecDepth 100000
/-- the brightest lamp of the drawer that gives light -/
def zSpN (P : zP) : Nat → Option Nat
  | 0 => none
  | l + 1 => if P 2 l 2 = 0 ∧ 0 < tBr P l ∧ tBetter P (zSpN P l) l = true then some l else zSpN P l
theorem zSpN_lt {P : zP} : ∀ n j, zSpN P n = some j → j < n ∧ P 2 j 2 = 0
  | 0, j, h => by cases h
  | n + 1, j, h => by
    unfold zSpN at h
    by_cases g : P 2 n 2 = 0 ∧ 0 < tBr P n ∧ tBetter P (zSpN P n) n = true
    · rw [if_pos g] at h
      cases h
      exact ⟨by omega, g.1⟩
    · rw [if_neg g] at h
      have := zSpN_lt n j h
      exact ⟨by omega, this.2⟩
/-- what the reference looks for -/
theorem zSpN_best {P : zP} {least : Int32} (hl : 0 < least) : ∀ n, (zSpN P n = none ∧ tBestN P least n = none) ∨ ∃ j, zSpN P n = some j ∧ ((least ≤ tBr P j ∧ tBestN P least n = some j) ∨ (¬ least ≤ tBr P j ∧ tBestN P least n = none))
  | 0 => Or.inl ⟨rfl, rfl⟩
  | n + 1 => by
    unfold zSpN tBestN
    rcases zSpN_best (P := P) hl n with ⟨h1, h2⟩ | ⟨j, h1, ⟨h2, h3⟩ | ⟨h2, h3⟩⟩
    · rw [h1, h2]
      by_cases g : P 2 n 2 = 0 ∧ 0 < tBr P n
      · rw [if_pos ⟨g.1, g.2, rfl⟩]
        by_cases q : least ≤ tBr P n
        · rw [if_pos ⟨g.1, q, rfl⟩]; exact Or.inr ⟨n, rfl, Or.inl ⟨q, rfl⟩⟩
        · rw [if_neg (fun z => q z.2.1)]; exact Or.inr ⟨n, rfl, Or.inr ⟨q, rfl⟩⟩
      · rw [if_neg (fun z => g ⟨z.1, z.2.1⟩), if_neg (fun z => g ⟨z.1, Int32.lt_of_lt_of_le hl z.2.1⟩)]
        exact Or.inl ⟨rfl, rfl⟩
    · rw [h1, h3]
      by_cases b : tBetter P (some j) n = true
      · have b2 : tBr P j < tBr P n := of_decide_eq_true b
        have b3 : least ≤ tBr P n := Int32.le_of_lt (Int32.lt_of_le_of_lt h2 b2)
        by_cases g : P 2 n 2 = 0
        · rw [if_pos ⟨g, Int32.lt_of_lt_of_le hl b3, b⟩, if_pos ⟨g, b3, b⟩]; exact Or.inr ⟨n, rfl, Or.inl ⟨b3, rfl⟩⟩
        · rw [if_neg (fun z => g z.1), if_neg (fun z => g z.1)]; exact Or.inr ⟨j, rfl, Or.inl ⟨h2, rfl⟩⟩
      · rw [if_neg (fun z => b z.2.2), if_neg (fun z => b z.2.2)]; exact Or.inr ⟨j, rfl, Or.inl ⟨h2, rfl⟩⟩
    · rw [h1, h3]
      by_cases g : P 2 n 2 = 0 ∧ 0 < tBr P n ∧ tBetter P (some j) n = true
      · rw [if_pos g]
        by_cases q : least ≤ tBr P n
        · rw [if_pos ⟨g.1, q, rfl⟩]; exact Or.inr ⟨n, rfl, Or.inl ⟨q, rfl⟩⟩
        · rw [if_neg (fun z => q z.2.1)]; exact Or.inr ⟨n, rfl, Or.inr ⟨q, rfl⟩⟩
      · rw [if_neg g, if_neg (fun z => g ⟨z.1, Int32.lt_of_lt_of_le hl z.2.1, decide_eq_true (Int32.lt_of_lt_of_le (Int32.not_le.mp h2) z.2.1)⟩)]
        exact Or.inr ⟨j, rfl, Or.inr ⟨h2, rfl⟩⟩
section ZPE
variable {G : zG} {μ : zM} {p o : Nat} {P : zP} {A : Nat → Nat → Nat} {c : Nat → Int32}
theorem C_brightestSpare (h : zPR G μ p o P A c) (hO : tOk P) (hf : tLife P) : Meets G 4 MX1_brightestSpare [.ref p] μ (zPure (.int (zNo (zSpN P (pcn P 8)))) μ) 0 0 := by
  have hL := h.lla
  obtain ⟨_, chL⟩ := hL.cell
  have l12 : pcn P 8 ≤ 12 := hO.l.2
  have hp := h.1
  refine meets_of (by decide +kernel) (Nat.le_of_ble_eq_true rfl) ?_
  refine aw_bipush (v := (-6)) (q := 2) dX1_brightestSpare_0 rfl rfl ?_
  refine aw_istore_n (i := 1) (q := 3) dX1_brightestSpare_2 rfl (by decide) rfl ?_
  refine aw_iconst (v := 0) (q := 4) dX1_brightestSpare_3 rfl rfl ?_
  refine aw_istore_n (i := 2) (q := 5) dX1_brightestSpare_4 rfl (by decide) rfl ?_
  have loop : ∀ (rem k : Nat), k + rem = pcn P 8 → AW G 4 MX1_brightestSpare (zPure (.int (zNo (zSpN P (pcn P 8)))) μ) 0 0 5 [(0, .ref p), (1, .int (zNo (zSpN P k))), (2, .int (nI k))] [] μ := by
    intro rem
    induction rem with
    | zero =>
      intro k hk
      have ek : k = pcn P 8 := by omega
      refine aw_iload_n (i := 2) (q := 6) dX1_brightestSpare_5 rfl rfl rfl ?_
      first | refine aw_aload_n (i := 0) (q := 7) dX1_brightestSpare_6 rfl rfl rfl ?_ | refine aw_aloadN_n (i := 0) (q := 7) dX1_brightestSpare_6 rfl rfl rfl ?_ | refine aw_aloadQ_n (i := 0) (q := 7) dX1_brightestSpare_6 rfl rfl rfl ?_
      refine aw_getfield (q := 10) dX1_brightestSpare_7 gf_X1_22_1 (by assumption) rfl rfl ?_
      refine aw_callF (q := 15) dX1_brightestSpare_10 (C_AL_size hL) cf_X1_111_14 (by assumption) rfl rfl (by decide) (by decide) (by first | exact Nat.le_of_ble_eq_true rfl | simp [zcat_rf, Value.category]) rfl (zpk ?_)
      refine aw_icmp_ge (tgt := 117) (q := 18) dX1_brightestSpare_15 (by decide) rfl (fun _ => ?_) (fun hZ => absurd (nI_le (a := pcn P 8) (b := k) (by omega) (by omega)) hZ)
      refine aw_iload_n (i := 1) (q := 118) dX1_brightestSpare_117 rfl rfl rfl ?_
      exact aw_ireturn dX1_brightestSpare_118 rfl (by first | rfl | exact zB_nar _) (⟨by rw [ek], rfl⟩)
    | succ rem ih =>
      intro k hk
      have hkn : k < pcn P 8 := by omega
      have hla := h.la hkn
      obtain ⟨r, hr⟩ : ∃ r, zSpN P k = r := ⟨_, rfl⟩
      rw [hr]
      refine aw_iload_n (i := 2) (q := 6) dX1_brightestSpare_5 rfl rfl rfl ?_
      first | refine aw_aload_n (i := 0) (q := 7) dX1_brightestSpare_6 rfl rfl rfl ?_ | refine aw_aloadN_n (i := 0) (q := 7) dX1_brightestSpare_6 rfl rfl rfl ?_ | refine aw_aloadQ_n (i := 0) (q := 7) dX1_brightestSpare_6 rfl rfl rfl ?_
      refine aw_getfield (q := 10) dX1_brightestSpare_7 gf_X1_22_1 (by assumption) rfl rfl ?_
      refine aw_callF (q := 15) dX1_brightestSpare_10 (C_AL_size hL) cf_X1_111_14 (by assumption) rfl rfl (by decide) (by decide) (by first | exact Nat.le_of_ble_eq_true rfl | simp [zcat_rf, Value.category]) rfl (zpk ?_)
      refine aw_icmp_ge (tgt := 117) (q := 18) dX1_brightestSpare_15 (by decide) rfl (fun hZ => absurd hZ (nI_ge (a := k) (b := pcn P 8) (by omega) (by omega))) (fun _ => ?_)
      first | refine aw_aload_n (i := 0) (q := 19) dX1_brightestSpare_18 rfl rfl rfl ?_ | refine aw_aloadN_n (i := 0) (q := 19) dX1_brightestSpare_18 rfl rfl rfl ?_ | refine aw_aloadQ_n (i := 0) (q := 19) dX1_brightestSpare_18 rfl rfl rfl ?_
      refine aw_getfield (q := 22) dX1_brightestSpare_19 gf_X1_22_1 (by assumption) rfl rfl ?_
      refine aw_iload_n (i := 2) (q := 23) dX1_brightestSpare_22 rfl rfl rfl ?_
      refine aw_callF (q := 28) dX1_brightestSpare_23 (C_AL_get hL hkn (by omega)) cf_X1_115_14 (by assumption) rfl rfl (by decide) (by decide) (by first | exact Nat.le_of_ble_eq_true rfl | simp [zcat_rf, Value.category]) rfl (zpk ?_)
      refine aw_cast (q := 31) dX1_brightestSpare_28 q512 hla ca_4_X4 rfl ?_
      refine aw_getfield (q := 34) dX1_brightestSpare_31 gf_X1_119_4 (by assumption) rfl rfl ?_
      refine aw_if_ne (tgt := 60) (q := 37) dX1_brightestSpare_34 (by decide) rfl (fun c1 => ?_) (fun c1 => ?_)
      · refine aw_iconst (v := 0) (q := 61) dX1_brightestSpare_60 rfl rfl ?_
        refine aw_istore_n (i := 3) (q := 62) dX1_brightestSpare_61 rfl (by decide) rfl ?_
        refine aw_iload_n (i := 3) (q := 63) dX1_brightestSpare_62 rfl rfl rfl ?_
        have e : zSpN P (k + 1) = r := (if_neg (fun q => c1 q.1)).trans hr
        refine aw_if_eq (tgt := 109) (q := 66) dX1_brightestSpare_63 (by decide) rfl (fun _ => ?_) (fun hZ => absurd (rfl) hZ)
        refine aw_iload_n (i := 1) (q := 110) dX1_brightestSpare_109 rfl rfl rfl ?_
        refine aw_istore_n (i := 1) (q := 111) dX1_brightestSpare_110 rfl (by decide) rfl ?_
        refine aw_iinc (q := 114) dX1_brightestSpare_111 rfl (by first | exact nI_1 _ | rfl) (by decide) rfl ?_
        refine aw_goto (tgt := 5) dX1_brightestSpare_114 (by decide) ?_
        exact AW.bud (aw_locals (by exact ⟨rfl, by rw [e]; rfl, rfl, trivial⟩) (ih (k + 1) (by omega))) (by omega) (by omega)
      · first | refine aw_aload_n (i := 0) (q := 38) dX1_brightestSpare_37 rfl rfl rfl ?_ | refine aw_aloadN_n (i := 0) (q := 38) dX1_brightestSpare_37 rfl rfl rfl ?_ | refine aw_aloadQ_n (i := 0) (q := 38) dX1_brightestSpare_37 rfl rfl rfl ?_
        refine aw_getfield (q := 41) dX1_brightestSpare_38 gf_X1_22_1 (by assumption) rfl rfl ?_
        refine aw_iload_n (i := 2) (q := 42) dX1_brightestSpare_41 rfl rfl rfl ?_
        refine aw_callF (q := 47) dX1_brightestSpare_42 (C_AL_get hL hkn (by omega)) cf_X1_115_14 (by assumption) rfl rfl (by decide) (by decide) (by first | exact Nat.le_of_ble_eq_true rfl | simp [zcat_rf, Value.category]) rfl (zpk ?_)
        refine aw_cast (q := 50) dX1_brightestSpare_47 q512 hla ca_4_X4 rfl ?_
        refine aw_callV (q := 53) dX1_brightestSpare_50 (C_Lamp_brightness hla (hf k hkn)) cv_X1_125_4 (by assumption) rfl rfl (by decide) (by decide) (by first | exact Nat.le_of_ble_eq_true rfl | simp [zcat_rf, Value.category]) rfl (zpk ?_)
        refine aw_if_le (tgt := 60) (q := 56) dX1_brightestSpare_53 (by decide) rfl (fun c2 => ?_) (fun c2 => ?_)
        · refine aw_iconst (v := 0) (q := 61) dX1_brightestSpare_60 rfl rfl ?_
          refine aw_istore_n (i := 3) (q := 62) dX1_brightestSpare_61 rfl (by decide) rfl ?_
          refine aw_iload_n (i := 3) (q := 63) dX1_brightestSpare_62 rfl rfl rfl ?_
          have e : zSpN P (k + 1) = r := (if_neg (fun q => absurd q.2.1 (Int32.not_lt.mpr c2))).trans hr
          refine aw_if_eq (tgt := 109) (q := 66) dX1_brightestSpare_63 (by decide) rfl (fun _ => ?_) (fun hZ => absurd (rfl) hZ)
          refine aw_iload_n (i := 1) (q := 110) dX1_brightestSpare_109 rfl rfl rfl ?_
          refine aw_istore_n (i := 1) (q := 111) dX1_brightestSpare_110 rfl (by decide) rfl ?_
          refine aw_iinc (q := 114) dX1_brightestSpare_111 rfl (by first | exact nI_1 _ | rfl) (by decide) rfl ?_
          refine aw_goto (tgt := 5) dX1_brightestSpare_114 (by decide) ?_
          exact AW.bud (aw_locals (by exact ⟨rfl, by rw [e]; rfl, rfl, trivial⟩) (ih (k + 1) (by omega))) (by omega) (by omega)
        · refine aw_iconst (v := 1) (q := 57) dX1_brightestSpare_56 rfl rfl ?_
          refine aw_goto (tgt := 61) dX1_brightestSpare_57 (by decide) ?_
          refine aw_istore_n (i := 3) (q := 62) dX1_brightestSpare_61 rfl (by decide) rfl ?_
          refine aw_iload_n (i := 3) (q := 63) dX1_brightestSpare_62 rfl rfl rfl ?_
          have c2 : 0 < tBr P k := Int32.not_le.mp c2
          refine aw_if_eq (tgt := 109) (q := 66) dX1_brightestSpare_63 (by decide) rfl (fun hZ => absurd hZ ((by decide))) (fun _ => ?_)
          refine aw_iload_n (i := 1) (q := 67) dX1_brightestSpare_66 rfl rfl rfl ?_
          cases r with
          | none =>
            have e : zSpN P (k + 1) = some k := if_pos ⟨c1, c2, by rw [hr]; rfl⟩
            refine aw_if_lt (tgt := 105) (q := 70) dX1_brightestSpare_67 (by decide) rfl (fun _ => ?_) (fun hZ => absurd ((by decide)) hZ)
            refine aw_iload_n (i := 2) (q := 106) dX1_brightestSpare_105 rfl rfl rfl ?_
            refine aw_goto (tgt := 110) dX1_brightestSpare_106 (by decide) ?_
            refine aw_istore_n (i := 1) (q := 111) dX1_brightestSpare_110 rfl (by decide) rfl ?_
            refine aw_iinc (q := 114) dX1_brightestSpare_111 rfl (by first | exact nI_1 _ | rfl) (by decide) rfl ?_
            refine aw_goto (tgt := 5) dX1_brightestSpare_114 (by decide) ?_
            exact AW.bud (aw_locals (by exact ⟨rfl, by rw [e]; rfl, rfl, trivial⟩) (ih (k + 1) (by omega))) (by omega) (by omega)
          | some j =>
            have hj := (zSpN_lt k j hr).1
            have hlj := h.la (i := j) (by omega)
            rw [show zNo (some j) = nI j from rfl]
            refine aw_if_lt (tgt := 105) (q := 70) dX1_brightestSpare_67 (by decide) rfl (fun hZ => absurd hZ ((Int32.not_lt.mpr (nI_le (a := 0) (b := j) (by omega) (by omega))))) (fun _ => ?_)
            first | refine aw_aload_n (i := 0) (q := 71) dX1_brightestSpare_70 rfl rfl rfl ?_ | refine aw_aloadN_n (i := 0) (q := 71) dX1_brightestSpare_70 rfl rfl rfl ?_ | refine aw_aloadQ_n (i := 0) (q := 71) dX1_brightestSpare_70 rfl rfl rfl ?_
            refine aw_getfield (q := 74) dX1_brightestSpare_71 gf_X1_22_1 (by assumption) rfl rfl ?_
            refine aw_iload_n (i := 2) (q := 75) dX1_brightestSpare_74 rfl rfl rfl ?_
            refine aw_callF (q := 80) dX1_brightestSpare_75 (C_AL_get hL hkn (by omega)) cf_X1_115_14 (by assumption) rfl rfl (by decide) (by decide) (by first | exact Nat.le_of_ble_eq_true rfl | simp [zcat_rf, Value.category]) rfl (zpk ?_)
            refine aw_cast (q := 83) dX1_brightestSpare_80 q512 hla ca_4_X4 rfl ?_
            refine aw_callV (q := 86) dX1_brightestSpare_83 (C_Lamp_brightness hla (hf k hkn)) cv_X1_125_4 (by assumption) rfl rfl (by decide) (by decide) (by first | exact Nat.le_of_ble_eq_true rfl | simp [zcat_rf, Value.category]) rfl (zpk ?_)
            first | refine aw_aload_n (i := 0) (q := 87) dX1_brightestSpare_86 rfl rfl rfl ?_ | refine aw_aloadN_n (i := 0) (q := 87) dX1_brightestSpare_86 rfl rfl rfl ?_ | refine aw_aloadQ_n (i := 0) (q := 87) dX1_brightestSpare_86 rfl rfl rfl ?_
            refine aw_getfield (q := 90) dX1_brightestSpare_87 gf_X1_22_1 (by assumption) rfl rfl ?_
            refine aw_iload_n (i := 1) (q := 91) dX1_brightestSpare_90 rfl rfl rfl ?_
            refine aw_callF (q := 96) dX1_brightestSpare_91 (C_AL_get hL (k := j) (by omega) (by omega)) cf_X1_115_14 (by assumption) rfl rfl (by decide) (by decide) (by first | exact Nat.le_of_ble_eq_true rfl | simp [zcat_rf, Value.category]) rfl (zpk ?_)
            refine aw_cast (q := 99) dX1_brightestSpare_96 q512 hlj ca_4_X4 rfl ?_
            refine aw_callV (q := 102) dX1_brightestSpare_99 (C_Lamp_brightness hlj (hf j (by omega))) cv_X1_125_4 (by assumption) rfl rfl (by decide) (by decide) (by first | exact Nat.le_of_ble_eq_true rfl | simp [zcat_rf, Value.category]) rfl (zpk ?_)
            refine aw_icmp_le (tgt := 109) (q := 105) dX1_brightestSpare_102 (by decide) rfl (fun c3 => ?_) (fun c3 => ?_)
            · refine aw_iload_n (i := 1) (q := 110) dX1_brightestSpare_109 rfl rfl rfl ?_
              refine aw_istore_n (i := 1) (q := 111) dX1_brightestSpare_110 rfl (by decide) rfl ?_
              refine aw_iinc (q := 114) dX1_brightestSpare_111 rfl (by first | exact nI_1 _ | rfl) (by decide) rfl ?_
              refine aw_goto (tgt := 5) dX1_brightestSpare_114 (by decide) ?_
              have e : zSpN P (k + 1) = some j := (if_neg (fun q => by (rw [hr] at q; exact absurd (of_decide_eq_true q.2.2) (Int32.not_lt.mpr c3)))).trans hr
              exact AW.bud (aw_locals (by exact ⟨rfl, by rw [e]; rfl, rfl, trivial⟩) (ih (k + 1) (by omega))) (by omega) (by omega)
            · refine aw_iload_n (i := 2) (q := 106) dX1_brightestSpare_105 rfl rfl rfl ?_
              refine aw_goto (tgt := 110) dX1_brightestSpare_106 (by decide) ?_
              refine aw_istore_n (i := 1) (q := 111) dX1_brightestSpare_110 rfl (by decide) rfl ?_
              refine aw_iinc (q := 114) dX1_brightestSpare_111 rfl (by first | exact nI_1 _ | rfl) (by decide) rfl ?_
              refine aw_goto (tgt := 5) dX1_brightestSpare_114 (by decide) ?_
              have e : zSpN P (k + 1) = some k := if_pos ⟨c1, c2, by rw [hr]; exact decide_eq_true (Int32.not_le.mp c3)⟩
              exact AW.bud (aw_locals (by exact ⟨rfl, by rw [e]; rfl, rfl, trivial⟩) (ih (k + 1) (by omega))) (by omega) (by omega)
  exact AW.bud (aw_locals (by exact ⟨rfl, rfl, rfl, trivial⟩) (loop (pcn P 8) 0 (by omega))) (by omega) (by omega)
/-- a lamp's place changes -/
theorem zPR.lset {μ' : zM} {i : Nat} {v : Int32} (h : zPR G μ p o P A c) (hO : tOk P) (hi : i < pcn P 8) (hμ : μ' = updM μ (A 2 i) (obT 2 i o, oLamp (P 2 i 0) (P 2 i 1) v)) : zPR G μ' p o (updP P 2 i 2 v) A c ∧ zKp (zKo o) μ μ' := by
  have hla := h.la hi
  refine ⟨h.set hO (Or.inr (Or.inl rfl)) (by decide) hi (hμ ▸ zKp.put hla (Or.inl rfl)) ?_, hμ ▸ zKp.put hla zKo.ob⟩
  show μ' (A 2 i) = some (obT 2 i o, oLamp (updP P 2 i 2 v 2 i 0) (updP P 2 i 2 v 2 i 1) (updP P 2 i 2 v 2 i 2))
  rw [updP_eq, updP_ne (by omega), updP_ne (by omega), hμ]
  exact updM_eq _ _ _
theorem tPutIn_n {l : Nat} (e : tFit P = -6) : tPutIn P l = updP P 2 l 2 1 := by
  unfold tPutIn; rw [e, if_pos (by decide)]
theorem tPutIn_s {l k : Nat} (hk : k < 2 ^ 30) (e : tFit P = nI k) : tPutIn P l = updP (updP P 2 k 2 0) 2 l 2 1 := by
  have h0 : ¬ nI k < 0 := Int32.not_lt.mpr (nI_le (a := 0) (b := k) (by omega) (by omega))
  unfold tPutIn; rw [e, if_neg h0, nI_clamp (by omega)]
theorem tPutIn_cn {l j : Nat} : pcn (tPutIn P l) j = pcn P j := by
  unfold tPutIn
  rw [pcn_upd (by omega)]
  split
  · rfl
  · rw [pcn_upd (by omega)]
/-- then lamp l alone is fitted -/
theorem tPutIn_at (h1 : tOneF P) (hn : pcn P 8 ≤ 12) {l i : Nat} (hi : i < pcn P 8) : tPutIn P l 2 i 2 = 1 ↔ i = l := by
  rcases zFit_or (P := P) (pcn P 8) with ⟨e, hj⟩ | ⟨k, hk, e, hc⟩
  · rw [tPutIn_n e]
    by_cases q : i = l
    · subst q; rw [updP_eq]; exact ⟨fun _ => rfl, fun _ => rfl⟩
    · rw [updP_ne (by omega)]; exact ⟨fun z => absurd z (hj i hi), fun z => absurd z q⟩
  · rw [tPutIn_s (by omega) e]
    by_cases q : i = l
    · subst q; rw [updP_eq]; exact ⟨fun _ => rfl, fun _ => rfl⟩
    · rw [updP_ne (by omega)]
      by_cases z : i = k
      · subst z; rw [updP_eq]; exact ⟨fun w => absurd w (by decide), fun w => absurd w q⟩
      · rw [updP_ne (by omega)]; exact ⟨fun w => absurd (h1 i k hi hk w hc) z, fun w => absurd w q⟩
theorem tPutIn_one (h1 : tOneF P) (hn : pcn P 8 ≤ 12) {l : Nat} : tOneF (tPutIn P l) := fun i j hi hj e1 e2 => by
  rw [tPutIn_cn] at hi hj
  rw [(tPutIn_at h1 hn hi).mp e1, (tPutIn_at h1 hn hj).mp e2]
theorem tPutIn_fit (h1 : tOneF P) (hn : pcn P 8 ≤ 12) {l : Nat} (hl : l < pcn P 8) : tFit (tPutIn P l) = nI l := by
  unfold tFit
  rw [tPutIn_cn]
  exact zFitted_at (tPutIn_one h1 hn) ((tPutIn_at h1 hn hl).mpr rfl) _ hl (by rw [tPutIn_cn]; exact Nat.le_refl _)
theorem C_fit {l : Nat} (h : zPR G μ p o P A c) (hO : tOk P) (h1 : tOneF P) (hl : l < pcn P 8) : Meets G 5 MX1_fit [.ref p, .int (nI l)] μ (fun v μ' => v = none ∧ zPR G μ' p o (tPutIn P l) A c ∧ zKp (zKo o) μ μ') 0 0 := by
  have hL := h.lla
  obtain ⟨_, chL⟩ := hL.cell
  have l12 : pcn P 8 ≤ 12 := hO.l.2
  have hp := h.1
  have hfx := C_fitted h hO h1
  have htz : ∀ i, obT 2 i o ≠ zC := fun i => obT_nz
  rcases zFit_or (P := P) (pcn P 8) with ⟨e, hj⟩ | ⟨k, hk, e, hc⟩
  · have hla := h.la hl
    have hz := htz l
    rw [tFit, e] at hfx
    refine meets_of (by decide +kernel) (Nat.le_of_ble_eq_true rfl) ?_
    first | refine aw_aload_n (i := 0) (q := 1) dX1_fit_0 rfl rfl rfl ?_ | refine aw_aloadN_n (i := 0) (q := 1) dX1_fit_0 rfl rfl rfl ?_ | refine aw_aloadQ_n (i := 0) (q := 1) dX1_fit_0 rfl rfl rfl ?_
    refine aw_callV (q := 4) dX1_fit_1 (hfx) cv_X1_122_1 (by assumption) rfl rfl (by decide) (by decide) (by first | exact Nat.le_of_ble_eq_true rfl | simp [zcat_rf, Value.category]) rfl (zpk ?_)
    refine aw_istore_n (i := 2) (q := 5) dX1_fit_4 rfl (by decide) rfl ?_
    refine aw_iload_n (i := 2) (q := 6) dX1_fit_5 rfl rfl rfl ?_
    refine aw_if_lt (tgt := 26) (q := 9) dX1_fit_6 (by decide) rfl (fun _ => ?_) (fun hZ => absurd ((by decide)) hZ)
    first | refine aw_aload_n (i := 0) (q := 27) dX1_fit_26 rfl rfl rfl ?_ | refine aw_aloadN_n (i := 0) (q := 27) dX1_fit_26 rfl rfl rfl ?_ | refine aw_aloadQ_n (i := 0) (q := 27) dX1_fit_26 rfl rfl rfl ?_
    refine aw_getfield (q := 30) dX1_fit_27 gf_X1_22_1 (by assumption) rfl rfl ?_
    refine aw_iload_n (i := 1) (q := 31) dX1_fit_30 rfl rfl rfl ?_
    refine aw_callF (q := 36) dX1_fit_31 (C_AL_get hL hl (by omega)) cf_X1_115_14 (by assumption) rfl rfl (by decide) (by decide) (by first | exact Nat.le_of_ble_eq_true rfl | simp [zcat_rf, Value.category]) rfl (zpk ?_)
    refine aw_cast (q := 39) dX1_fit_36 q512 hla ca_4_X4 rfl ?_
    refine aw_iconst (v := 1) (q := 40) dX1_fit_39 rfl rfl ?_
    refine aw_putfield (q := 43) dX1_fit_40 gf_X1_119_4 hla (by first | assumption | simp) (by first | rfl | exact znar_rf _ _ | exact zB_nar _) (by first | rfl | exact zfit_rf _ _ | exact zB_fit _) (Nat.le_of_ble_eq_true rfl) rfl (fun μ1 hg_μ1 => ?_)
    have hla : μ1 _ = some _ := hg_μ1 ▸ updM_eq _ _ _
    simp only [List.set] at hla hg_μ1
    obtain ⟨q1, q2⟩ := h.lset hO hl hg_μ1
    exact aw_return dX1_fit_43 rfl (⟨rfl, by rw [tPutIn_n e]; exact q1, q2⟩)
  · have hlk := h.la hk
    have hz := htz k
    rw [tFit, e] at hfx
    refine meets_of (by decide +kernel) (Nat.le_of_ble_eq_true rfl) ?_
    first | refine aw_aload_n (i := 0) (q := 1) dX1_fit_0 rfl rfl rfl ?_ | refine aw_aloadN_n (i := 0) (q := 1) dX1_fit_0 rfl rfl rfl ?_ | refine aw_aloadQ_n (i := 0) (q := 1) dX1_fit_0 rfl rfl rfl ?_
    refine aw_callV (q := 4) dX1_fit_1 (hfx) cv_X1_122_1 (by assumption) rfl rfl (by decide) (by decide) (by first | exact Nat.le_of_ble_eq_true rfl | simp [zcat_rf, Value.category]) rfl (zpk ?_)
    refine aw_istore_n (i := 2) (q := 5) dX1_fit_4 rfl (by decide) rfl ?_
    refine aw_iload_n (i := 2) (q := 6) dX1_fit_5 rfl rfl rfl ?_
    refine aw_if_lt (tgt := 26) (q := 9) dX1_fit_6 (by decide) rfl (fun hZ => absurd hZ ((Int32.not_lt.mpr (nI_le (a := 0) (b := k) (by omega) (by omega))))) (fun _ => ?_)
    first | refine aw_aload_n (i := 0) (q := 10) dX1_fit_9 rfl rfl rfl ?_ | refine aw_aloadN_n (i := 0) (q := 10) dX1_fit_9 rfl rfl rfl ?_ | refine aw_aloadQ_n (i := 0) (q := 10) dX1_fit_9 rfl rfl rfl ?_
    refine aw_getfield (q := 13) dX1_fit_10 gf_X1_22_1 (by assumption) rfl rfl ?_
    refine aw_iload_n (i := 2) (q := 14) dX1_fit_13 rfl rfl rfl ?_
    refine aw_callF (q := 19) dX1_fit_14 (C_AL_get hL hk (by omega)) cf_X1_115_14 (by assumption) rfl rfl (by decide) (by decide) (by first | exact Nat.le_of_ble_eq_true rfl | simp [zcat_rf, Value.category]) rfl (zpk ?_)
    refine aw_cast (q := 22) dX1_fit_19 q512 hlk ca_4_X4 rfl ?_
    refine aw_iconst (v := 0) (q := 23) dX1_fit_22 rfl rfl ?_
    refine aw_putfield (q := 26) dX1_fit_23 gf_X1_119_4 hlk (by first | assumption | simp) (by first | rfl | exact znar_rf _ _ | exact zB_nar _) (by first | rfl | exact zfit_rf _ _ | exact zB_fit _) (Nat.le_of_ble_eq_true rfl) rfl (fun μ1 hg_μ1 => ?_)
    have hlk : μ1 _ = some _ := hg_μ1 ▸ updM_eq _ _ _
    simp only [List.set] at hlk hg_μ1
    obtain ⟨q1, q2⟩ := h.lset hO hk hg_μ1
    have ec : pcn (updP P 2 k 2 0) 8 = pcn P 8 := pcn_upd (by omega)
    have hp1 := q1.1
    have hL1 := q1.lla
    obtain ⟨_, chL1⟩ := hL1.cell
    rw [ec] at hL1
    have hla1 := q1.la (i := l) (by rw [ec]; exact hl)
    have hz := htz l
    first | refine aw_aload_n (i := 0) (q := 27) dX1_fit_26 rfl rfl rfl ?_ | refine aw_aloadN_n (i := 0) (q := 27) dX1_fit_26 rfl rfl rfl ?_ | refine aw_aloadQ_n (i := 0) (q := 27) dX1_fit_26 rfl rfl rfl ?_
    refine aw_getfield (q := 30) dX1_fit_27 gf_X1_22_1 (by assumption) rfl rfl ?_
    refine aw_iload_n (i := 1) (q := 31) dX1_fit_30 rfl rfl rfl ?_
    refine aw_callF (q := 36) dX1_fit_31 (C_AL_get hL1 hl (by omega)) cf_X1_115_14 (by assumption) rfl rfl (by decide) (by decide) (by first | exact Nat.le_of_ble_eq_true rfl | simp [zcat_rf, Value.category]) rfl (zpk ?_)
    refine aw_cast (q := 39) dX1_fit_36 q512 hla1 ca_4_X4 rfl ?_
    refine aw_iconst (v := 1) (q := 40) dX1_fit_39 rfl rfl ?_
    refine aw_putfield (q := 43) dX1_fit_40 gf_X1_119_4 hla1 (by first | assumption | simp) (by first | rfl | exact znar_rf _ _ | exact zB_nar _) (by first | rfl | exact zfit_rf _ _ | exact zB_fit _) (Nat.le_of_ble_eq_true rfl) rfl (fun μ2 hg_μ2 => ?_)
    have hla1 : μ2 _ = some _ := hg_μ2 ▸ updM_eq _ _ _
    simp only [List.set] at hla1 hg_μ2
    obtain ⟨q3, q4⟩ := q1.lset (hO.upd (Or.inl (by decide))) (by rw [ec]; exact hl) hg_μ2
    exact aw_return dX1_fit_43 rfl (⟨rfl, by rw [tPutIn_s (by omega) e]; exact q3, q2.tr q4⟩)
end ZPE
