/-! THE TWIN, part 10: close, hold -/
set_option maxRecDepth 100000
def tCloseQ (P Q : zP) (b : Nat) (st : Int32) : zP := updP (updP (tTally Q b (if st = 1 then 0 else 3)) 4 b 4 st) 4 b 6 (if st = 1 then 0 else P 4 b 5 * P 0 0 3 / 100)
def tCloseN (P : zP) (D : Nat → Int32) (s : Nat) (st : Int32) : Nat → zP × (Nat → Int32)
  | 0 => (P, D)
  | b + 1 =>
    if P 4 b 0 = nI s ∧ P 4 b 4 = 0 then
      (if st = 4 then (tLose (tCloseN P D s st b).1 b 1, upd (upd (tCloseN P D s st b).2 2 ((tCloseN P D s st b).2 2 + P 4 b 1)) 3 ((tCloseN P D s st b).2 3 + P 4 b 5))
       else (tCloseQ P (tCloseN P D s st b).1 b st, (tCloseN P D s st b).2))
    else tCloseN P D s st b
theorem tCloseQ_same {P Q : zP} {b : Nat} {st : Int32} : tSame Q (tCloseQ P Q b st) := by
  intro s i c h
  unfold tCloseQ
  rw [updP_ne (by omega), updP_ne (by omega)]
  exact tTally_o (by omega)
theorem tCloseQ_bk {P Q : zP} {b b' c : Nat} {st : Int32} (h : b' ≠ b) : tCloseQ P Q b st 4 b' c = Q 4 b' c := by
  unfold tCloseQ
  rw [updP_ne (by omega), updP_ne (by omega)]
  exact tTally_o (by omega)
theorem tCloseN_same {P : zP} {D : Nat → Int32} {s : Nat} {st : Int32} : ∀ n, tSame P (tCloseN P D s st n).1
  | 0 => tSame.rf
  | n + 1 => by
    have ih := tCloseN_same (P := P) (D := D) (s := s) (st := st) n
    unfold tCloseN
    split
    · split
      · exact ih.tr tLose_same
      · exact ih.tr tCloseQ_same
    · exact ih
theorem tCloseN_bk {P : zP} {D : Nat → Int32} {s : Nat} {st : Int32} {b c : Nat} : ∀ n, n ≤ b → (tCloseN P D s st n).1 4 b c = P 4 b c
  | 0, _ => rfl
  | n + 1, h => by
    have ih := tCloseN_bk (P := P) (D := D) (s := s) (st := st) (b := b) (c := c) n (by omega)
    unfold tCloseN
    split
    · split
      · exact (tLose_bk (by omega)).trans ih
      · exact (tCloseQ_bk (by omega)).trans ih
    · exact ih
def tClose (P : zP) (D : Nat → Int32) (s : Nat) (st : Int32) : zP × (Nat → Int32) := tCloseN P D s st (pcn P 10)
section ZTW9
variable {G : zG} {μ : zM} {m : Nat} {lam : Nat → Nat} {K : Nat → Nat → Int32} {P : zP}
theorem C2_close {s : Nat} {x st : Int32} (hT : zTP G μ m lam K P) (hx : x = nI s) (hB : tBkOk P) : Meets G 4 MX2_close [.ref m, .int x, .int st] μ (tPost8 G μ m lam K (tClose P (K 8) s st).1 (tClose P (K 8) s st).2 none) 0 0 := by
  subst hx
  have hm := hT.m
  have h1 := hT.a1
  refine meets_of (by decide +kernel) (Nat.le_of_ble_eq_true rfl) ?_
  refine aw_iconst (v := 0) (q := 1) dX2_close_0 rfl rfl ?_
  refine aw_istore_n (i := 3) (q := 2) dX2_close_1 rfl (by decide) rfl ?_
  have loop : ∀ n e, e + n = pcn P 10 → ∀ (μ1 : zM) (f : Nat → Int32), zTP G μ1 m lam (setK (setK K 8 (tCloseN P (K 8) s st e).2) 1 f) (tCloseN P (K 8) s st e).1 → zKp tTw μ μ1 → AW G 4 MX2_close (tPost8 G μ m lam K (tClose P (K 8) s st).1 (tClose P (K 8) s st).2 none) 0 0 2 [(0, .ref m), (1, .int (nI s)), (2, .int st), (3, .int (nI e))] [] μ1 := by
    intro n
    induction n with
    | zero =>
      intro e he μ1 f hT hk
      have hm := hT.m
      have h1 := hT.a1
      have sm := tCloseN_same (P := P) (D := K 8) (s := s) (st := st) e
      obtain ⟨hn, hN⟩ := hT.2.2.b
      rw [sm.cn] at hn hN
      refine aw_iload_n (i := 3) (q := 3) dX2_close_2 rfl rfl rfl ?_
      first | refine aw_aload_n (i := 0) (q := 4) dX2_close_3 rfl rfl rfl ?_ | refine aw_aloadN_n (i := 0) (q := 4) dX2_close_3 rfl rfl rfl ?_ | refine aw_aloadQ_n (i := 0) (q := 4) dX2_close_3 rfl rfl rfl ?_
      refine aw_getfield (q := 7) dX2_close_4 gf_X2_7_2 (by assumption) rfl rfl ?_
      refine aw_bipush (v := 10) (q := 9) dX2_close_7 rfl rfl ?_
      refine aw_iald (q := 10) (v := nI (pcn P 10)) (10) dX2_close_9 (by assumption) (by first | assumption | (simp only [← nI_add, ← pk_mul]; rfl) | rfl) (by omega) (by omega) ((hT.2.1.g (by omega)).trans hn) rfl ?_
      refine aw_icmp_ge (tgt := 124) (q := 13) dX2_close_10 (by decide) rfl (fun _ => ?_) (fun hc => absurd (nI_le (by omega) (by omega)) hc)
      exact aw_return dX2_close_124 rfl (⟨rfl, ⟨f, by rw [tClose, show pcn P 10 = e by omega]; exact hT⟩, hk⟩)
    | succ n ih =>
      intro e he μ1 f hT hk
      have hm := hT.m
      have h1 := hT.a1
      have sm := tCloseN_same (P := P) (D := K 8) (s := s) (st := st) e
      obtain ⟨hn, hN⟩ := hT.2.2.b
      rw [sm.cn] at hn hN
      have hlt : e < pcn P 10 := by omega
      have bk : ∀ c, (tCloseN P (K 8) s st e).1 4 e c = P 4 e c := fun c => tCloseN_bk e (Nat.le_refl _)
      refine aw_iload_n (i := 3) (q := 3) dX2_close_2 rfl rfl rfl ?_
      first | refine aw_aload_n (i := 0) (q := 4) dX2_close_3 rfl rfl rfl ?_ | refine aw_aloadN_n (i := 0) (q := 4) dX2_close_3 rfl rfl rfl ?_ | refine aw_aloadQ_n (i := 0) (q := 4) dX2_close_3 rfl rfl rfl ?_
      refine aw_getfield (q := 7) dX2_close_4 gf_X2_7_2 (by assumption) rfl rfl ?_
      refine aw_bipush (v := 10) (q := 9) dX2_close_7 rfl rfl ?_
      refine aw_iald (q := 10) (v := nI (pcn P 10)) (10) dX2_close_9 (by assumption) (by first | assumption | (simp only [← nI_add, ← pk_mul]; rfl) | rfl) (by omega) (by omega) ((hT.2.1.g (by omega)).trans hn) rfl ?_
      refine aw_icmp_ge (tgt := 124) (q := 13) dX2_close_10 (by decide) rfl (fun hc => absurd hc (nI_ge hlt (by omega))) (fun _ => ?_)
      first | refine aw_aload_n (i := 0) (q := 14) dX2_close_13 rfl rfl rfl ?_ | refine aw_aloadN_n (i := 0) (q := 14) dX2_close_13 rfl rfl rfl ?_ | refine aw_aloadQ_n (i := 0) (q := 14) dX2_close_13 rfl rfl rfl ?_
      refine aw_iload_n (i := 3) (q := 15) dX2_close_14 rfl rfl rfl ?_
      refine aw_iconst (v := 0) (q := 16) dX2_close_15 rfl rfl ?_
      refine aw_callV (q := 19) dX2_close_16 (C2_ofBooking (s := e) (c := 0) hT rfl rfl (by omega) (by omega)) cv_X2_88_2 (by assumption) rfl rfl (by decide) (by decide) (by first | exact Nat.le_of_ble_eq_true rfl | simp [zcat_rf, Value.category]) rfl (zpk ?_)
      rw [bk]
      refine aw_iload_n (i := 1) (q := 20) dX2_close_19 rfl rfl rfl ?_
      refine aw_icmp_ne (tgt := 118) (q := 23) dX2_close_20 (by decide) rfl (fun ha => ?_) (fun ha => ?_)
      · refine aw_iinc (q := 121) dX2_close_118 rfl (by first | exact nI_1 _ | rfl) (by decide) rfl ?_
        refine aw_goto (tgt := 2) dX2_close_121 (by decide) ?_
        have e3 : tCloseN P (K 8) s st (e + 1) = tCloseN P (K 8) s st e := by
          show (if _ then _ else _) = _
          rw [if_neg (fun h => ha h.1)]
        exact aw_locals (by exact ⟨rfl, rfl, rfl, rfl, trivial⟩) (ih (e + 1) (by omega) μ1 f (by rw [e3]; exact hT) hk)
      · first | refine aw_aload_n (i := 0) (q := 24) dX2_close_23 rfl rfl rfl ?_ | refine aw_aloadN_n (i := 0) (q := 24) dX2_close_23 rfl rfl rfl ?_ | refine aw_aloadQ_n (i := 0) (q := 24) dX2_close_23 rfl rfl rfl ?_
        refine aw_iload_n (i := 3) (q := 25) dX2_close_24 rfl rfl rfl ?_
        refine aw_iconst (v := 4) (q := 26) dX2_close_25 rfl rfl ?_
        refine aw_callV (q := 29) dX2_close_26 (C2_ofBooking (s := e) (c := 4) hT rfl rfl (by omega) (by omega)) cv_X2_88_2 (by assumption) rfl rfl (by decide) (by decide) (by first | exact Nat.le_of_ble_eq_true rfl | simp [zcat_rf, Value.category]) rfl (zpk ?_)
        rw [bk]
        refine aw_if_ne (tgt := 118) (q := 32) dX2_close_29 (by decide) rfl (fun hb => ?_) (fun hb => ?_)
        · refine aw_iinc (q := 121) dX2_close_118 rfl (by first | exact nI_1 _ | rfl) (by decide) rfl ?_
          refine aw_goto (tgt := 2) dX2_close_121 (by decide) ?_
          have e3 : tCloseN P (K 8) s st (e + 1) = tCloseN P (K 8) s st e := by
            show (if _ then _ else _) = _
            rw [if_neg (fun h => hb h.2)]
          exact aw_locals (by exact ⟨rfl, rfl, rfl, rfl, trivial⟩) (ih (e + 1) (by omega) μ1 f (by rw [e3]; exact hT) hk)
        · refine aw_iload_n (i := 2) (q := 33) dX2_close_32 rfl rfl rfl ?_
          refine aw_iconst (v := 4) (q := 34) dX2_close_33 rfl rfl ?_
          refine aw_icmp_ne (tgt := 46) (q := 37) dX2_close_34 (by decide) rfl (fun hc => ?_) (fun hc => ?_)
          · skip
            have e3 : tCloseN P (K 8) s st (e + 1) = (tCloseQ P (tCloseN P (K 8) s st e).1 e st, (tCloseN P (K 8) s st e).2) := by
              show (if _ then (if _ then _ else _) else _) = _
              rw [if_pos ⟨ha, hb⟩, if_neg hc]
            have rest : ∀ (w : Nat), w = (if st = 1 then 0 else 3) → w < 5 → AW G 4 MX2_close (tPost8 G μ m lam K (tClose P (K 8) s st).1 (tClose P (K 8) s st).2 none) 0 0 58 [(0, .ref m), (1, .int (nI s)), (2, .int st), (3, .int (nI e))] [.int (nI w), .int (nI e), .ref m] μ1 := by
              intro w hw hw5
              refine aw_callV (q := 61) dX2_close_58 (C2_tally hT rfl rfl (by rw [sm.cn]; exact hlt) hw5 (sm.bkOk hB)) cv_X2_113_2 (by assumption) rfl rfl (by decide) (by decide) (by first | exact Nat.le_of_ble_eq_true rfl | simp [zcat_rf, Value.category]) rfl (fun v58 μ2 hp => ?_)
              obtain ⟨rfl, ⟨n2, hT2⟩, hk2⟩ := hp
              rw [setK_twice] at hT2
              have hm := hT2.m
              have h1 := hT2.a1
              first | refine aw_aload_n (i := 0) (q := 62) dX2_close_61 rfl rfl rfl ?_ | refine aw_aloadN_n (i := 0) (q := 62) dX2_close_61 rfl rfl rfl ?_ | refine aw_aloadQ_n (i := 0) (q := 62) dX2_close_61 rfl rfl rfl ?_
              refine aw_getfield (q := 65) dX2_close_62 gf_X2_7_2 (by assumption) rfl rfl ?_
              refine aw_sipush (v := 520) (q := 68) dX2_close_65 rfl rfl ?_
              refine aw_bipush (v := 16) (q := 70) dX2_close_68 rfl rfl ?_
              refine aw_iload_n (i := 3) (q := 71) dX2_close_70 rfl rfl rfl ?_
              refine aw_imul (q := 72) dX2_close_71 rfl ?_
              refine aw_iadd (q := 73) dX2_close_72 rfl ?_
              refine aw_iconst (v := 4) (q := 74) dX2_close_73 rfl rfl ?_
              refine aw_iadd (q := 75) dX2_close_74 rfl ?_
              refine aw_iload_n (i := 2) (q := 76) dX2_close_75 rfl rfl rfl ?_
              refine aw_iast (q := 77) (520 + 16 * e + 4) dX2_close_76 h1 (by first | assumption | simp) (by first | assumption | (simp only [← nI_add, ← pk_mul]; rfl) | rfl) (by omega) (by omega) rfl (fun μ3 hg_μ3 => ?_)
              have h1 : μ3 _ = some _ := hg_μ3 ▸ updM_eq _ _ _
              obtain ⟨hT3, hk3⟩ := hT2.st (s := 4) (i := e) (c := 4) (by omega) (show e < 80 by omega) (show 4 < 16 by omega) rfl hg_μ3 (hT2.2.2.upd (by omega))
              rw [setK_twice] at hT3
              have hm := hT3.m
              have h1 := hT3.a1
              have rest2 : ∀ v : Int32, v = (if st = 1 then 0 else P 4 e 5 * P 0 0 3 / 100) → AW G 4 MX2_close (tPost8 G μ m lam K (tClose P (K 8) s st).1 (tClose P (K 8) s st).2 none) 0 0 117 [(0, .ref m), (1, .int (nI s)), (2, .int st), (3, .int (nI e))] [.int v, .int (520 + 16 * nI e + 6), .ref (lam 1)] μ3 := by
                intro v hv
                refine aw_iast (q := 118) (520 + 16 * e + 6) dX2_close_117 h1 (by first | assumption | simp) (by first | assumption | (simp only [← nI_add, ← pk_mul]; rfl) | rfl) (by omega) (by omega) rfl (fun μ4 hg_μ4 => ?_)
                have h1 : μ4 _ = some _ := hg_μ4 ▸ updM_eq _ _ _
                obtain ⟨hT4, hk4⟩ := hT3.st (s := 4) (i := e) (c := 6) (by omega) (show e < 80 by omega) (show 6 < 16 by omega) rfl hg_μ4 (hT3.2.2.upd (by omega))
                rw [setK_twice] at hT4
                refine aw_iinc (q := 121) dX2_close_118 rfl (by first | exact nI_1 _ | rfl) (by decide) rfl ?_
                refine aw_goto (tgt := 2) dX2_close_121 (by decide) ?_
                exact aw_locals (by exact ⟨rfl, rfl, rfl, rfl, trivial⟩) (ih (e + 1) (by omega) μ4 _ (by rw [e3]; dsimp only [tCloseQ]; rw [← hw, ← hv]; exact hT4) (((hk.tr hk2).tr hk3).tr hk4))
              first | refine aw_aload_n (i := 0) (q := 78) dX2_close_77 rfl rfl rfl ?_ | refine aw_aloadN_n (i := 0) (q := 78) dX2_close_77 rfl rfl rfl ?_ | refine aw_aloadQ_n (i := 0) (q := 78) dX2_close_77 rfl rfl rfl ?_
              refine aw_getfield (q := 81) dX2_close_78 gf_X2_7_2 (by assumption) rfl rfl ?_
              refine aw_sipush (v := 520) (q := 84) dX2_close_81 rfl rfl ?_
              refine aw_bipush (v := 16) (q := 86) dX2_close_84 rfl rfl ?_
              refine aw_iload_n (i := 3) (q := 87) dX2_close_86 rfl rfl rfl ?_
              refine aw_imul (q := 88) dX2_close_87 rfl ?_
              refine aw_iadd (q := 89) dX2_close_88 rfl ?_
              refine aw_bipush (v := 6) (q := 91) dX2_close_89 rfl rfl ?_
              refine aw_iadd (q := 92) dX2_close_91 rfl ?_
              refine aw_iload_n (i := 2) (q := 93) dX2_close_92 rfl rfl rfl ?_
              refine aw_iconst (v := 1) (q := 94) dX2_close_93 rfl rfl ?_
              refine aw_icmp_ne (tgt := 101) (q := 97) dX2_close_94 (by decide) rfl (fun hy => ?_) (fun hy => ?_)
              · first | refine aw_aload_n (i := 0) (q := 102) dX2_close_101 rfl rfl rfl ?_ | refine aw_aloadN_n (i := 0) (q := 102) dX2_close_101 rfl rfl rfl ?_ | refine aw_aloadQ_n (i := 0) (q := 102) dX2_close_101 rfl rfl rfl ?_
                refine aw_iload_n (i := 3) (q := 103) dX2_close_102 rfl rfl rfl ?_
                refine aw_iconst (v := 5) (q := 104) dX2_close_103 rfl rfl ?_
                refine aw_callV (q := 107) dX2_close_104 (C2_ofBooking (s := e) (c := 5) hT3 rfl rfl (by omega) (by omega)) cv_X2_88_2 (by assumption) rfl rfl (by decide) (by decide) (by first | exact Nat.le_of_ble_eq_true rfl | simp [zcat_rf, Value.category]) rfl (zpk ?_)
                rw [updP_ne (by omega), tTally_o (by omega), bk]
                first | refine aw_aload_n (i := 0) (q := 108) dX2_close_107 rfl rfl rfl ?_ | refine aw_aloadN_n (i := 0) (q := 108) dX2_close_107 rfl rfl rfl ?_ | refine aw_aloadQ_n (i := 0) (q := 108) dX2_close_107 rfl rfl rfl ?_
                refine aw_getfield (q := 111) dX2_close_108 gf_X2_7_2 (by assumption) rfl rfl ?_
                refine aw_iconst (v := 3) (q := 112) dX2_close_111 rfl rfl ?_
                refine aw_iald (q := 113) (v := P 0 0 3) (3) dX2_close_112 (by assumption) (by first | assumption | (simp only [← nI_add, ← pk_mul]; rfl) | rfl) (by omega) (by omega) ((hT3.2.1.g (by omega)).trans ((updP_ne (by omega)).trans ((tTally_o (by omega)).trans (sm 0 0 3 (by omega))))) rfl ?_
                refine aw_imul (q := 114) dX2_close_113 rfl ?_
                refine aw_bipush (v := 100) (q := 116) dX2_close_114 rfl rfl ?_
                refine aw_idiv (q := 117) dX2_close_116 (by decide) rfl ?_
                exact aw_locals (by exact ⟨rfl, rfl, rfl, rfl, trivial⟩) (rest2 _ (by rw [if_neg hy]))
              · refine aw_iconst (v := 0) (q := 98) dX2_close_97 rfl rfl ?_
                refine aw_goto (tgt := 117) dX2_close_98 (by decide) ?_
                exact aw_locals (by exact ⟨rfl, rfl, rfl, rfl, trivial⟩) (rest2 _ (by rw [if_pos hy]))
            first | refine aw_aload_n (i := 0) (q := 47) dX2_close_46 rfl rfl rfl ?_ | refine aw_aloadN_n (i := 0) (q := 47) dX2_close_46 rfl rfl rfl ?_ | refine aw_aloadQ_n (i := 0) (q := 47) dX2_close_46 rfl rfl rfl ?_
            refine aw_iload_n (i := 3) (q := 48) dX2_close_47 rfl rfl rfl ?_
            refine aw_iload_n (i := 2) (q := 49) dX2_close_48 rfl rfl rfl ?_
            refine aw_iconst (v := 1) (q := 50) dX2_close_49 rfl rfl ?_
            refine aw_icmp_ne (tgt := 57) (q := 53) dX2_close_50 (by decide) rfl (fun hy => ?_) (fun hy => ?_)
            · refine aw_iconst (v := 3) (q := 58) dX2_close_57 rfl rfl ?_
              exact aw_locals (by exact ⟨rfl, rfl, rfl, rfl, trivial⟩) (rest 3 (by rw [if_neg hy]) (by omega))
            · refine aw_iconst (v := 0) (q := 54) dX2_close_53 rfl rfl ?_
              refine aw_goto (tgt := 58) dX2_close_54 (by decide) ?_
              exact aw_locals (by exact ⟨rfl, rfl, rfl, rfl, trivial⟩) (rest 0 (by rw [if_pos hy]) (by omega))
          · first | refine aw_aload_n (i := 0) (q := 38) dX2_close_37 rfl rfl rfl ?_ | refine aw_aloadN_n (i := 0) (q := 38) dX2_close_37 rfl rfl rfl ?_ | refine aw_aloadQ_n (i := 0) (q := 38) dX2_close_37 rfl rfl rfl ?_
            refine aw_iload_n (i := 3) (q := 39) dX2_close_38 rfl rfl rfl ?_
            refine aw_iconst (v := 1) (q := 40) dX2_close_39 rfl rfl ?_
            refine aw_callV (q := 43) dX2_close_40 (C2_lose hT rfl rfl (by rw [sm.cn]; exact hlt) (by decide) (sm.bkOk hB)) cv_X2_124_2 (by assumption) rfl rfl (by decide) (by decide) (by first | exact Nat.le_of_ble_eq_true rfl | simp [zcat_rf, Value.category]) rfl (fun v40 μ2 hp => ?_)
            obtain ⟨rfl, ⟨n2, hT2⟩, hk2⟩ := hp
            rw [bk, bk, setK_ne (by decide), setK_eq, setK_comm _ _ _ (by decide : (1 : Nat) ≠ 8), setK_twice, setK_twice] at hT2
            refine aw_goto (tgt := 118) dX2_close_43 (by decide) ?_
            refine aw_iinc (q := 121) dX2_close_118 rfl (by first | exact nI_1 _ | rfl) (by decide) rfl ?_
            refine aw_goto (tgt := 2) dX2_close_121 (by decide) ?_
            have e3 : tCloseN P (K 8) s st (e + 1) = (tLose (tCloseN P (K 8) s st e).1 e 1, upd (upd (tCloseN P (K 8) s st e).2 2 ((tCloseN P (K 8) s st e).2 2 + P 4 e 1)) 3 ((tCloseN P (K 8) s st e).2 3 + P 4 e 5)) := by
              show (if _ then (if _ then _ else _) else _) = _
              rw [if_pos ⟨ha, hb⟩, if_pos hc]
            exact aw_locals (by exact ⟨rfl, rfl, rfl, rfl, trivial⟩) (ih (e + 1) (by omega) μ2 n2 (by rw [e3]; exact hT2) (hk.tr hk2))
  exact aw_locals (by exact ⟨rfl, rfl, rfl, rfl, trivial⟩) (loop (pcn P 10) 0 (by omega) μ (setK K 8 (K 8) 1) (by show zTP G μ m lam (setK (setK K 8 (K 8)) 1 _) P; rw [setK_self, setK_self]; exact hT) zKp.rf)
end ZTW9
