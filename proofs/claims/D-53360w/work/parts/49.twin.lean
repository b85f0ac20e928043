/-! THE TWIN, part 9: barOfEvent, hasLight, close -/
set_option maxRecDepth 100000
def tBusy (P : zP) (day : Int32) (sl : Nat) : Nat → Bool
  | 0 => false
  | n + 1 => tBusy P day sl n || decide (0 ≤ tEventAt P day (nI (sl + n)))
def tBar (P : zP) (day slot many : Int32) : Int32 :=
  if P 0 0 6 ≤ day ∧ day ≤ P 0 0 6 + 60 ∧ 0 ≤ slot ∧ slot ≤ 5 ∧ 1 ≤ many ∧ many ≤ 6 ∧ slot + many ≤ 6 then
    (if P 0 0 11 = 20 then -4 else if tBusy P day slot.toNatClampNeg many.toNatClampNeg = true then -5 else 0)
  else -2
def tBr (P : zP) (l : Nat) : Int32 := zBright (P 2 l 0) (P 2 l 1)
def tBetter (P : zP) (r : Option Nat) (l : Nat) : Bool := match r with
  | none => true
  | some j => decide (tBr P j < tBr P l)
/-- the brightest lamp of the drawer that gives enough, among the first n -/
def tBestN (P : zP) (least : Int32) : Nat → Option Nat
  | 0 => none
  | l + 1 => if P 2 l 2 = 0 ∧ least ≤ tBr P l ∧ tBetter P (tBestN P least l) l = true then some l else tBestN P least l
def tBest (P : zP) (least : Int32) : Option Nat := tBestN P least (pcn P 8)
def tLit (P : zP) (least : Int32) : Prop := 0 ≤ tFit P ∧ least ≤ tBr P (tFit P).toNatClampNeg
def tHas (P : zP) (least : Int32) : Prop := tLit P least ∨ (P 0 0 5 ≠ 0 ∧ (tBest P least).isSome = true)
def tLitD (P : zP) (least : Int32) : Bool := decide (0 ≤ tFit P ∧ least ≤ tBr P (tFit P).toNatClampNeg)
def tHasD (P : zP) (least : Int32) : Bool := tLitD P least || (decide (P 0 0 5 ≠ 0) && (tBest P least).isSome)
def tLight (P : zP) (least : Int32) : zP :=
  if tLitD P least = true then P else if P 0 0 5 = 0 then P else match tBest P least with
    | none => P
    | some j => tPutIn P j
theorem tBestN_lt {P : zP} {least : Int32} : ∀ n j, tBestN P least n = some j → j < n ∧ P 2 j 2 = 0 ∧ least ≤ tBr P j
  | 0, j, h => by cases h
  | n + 1, j, h => by
    unfold tBestN at h
    by_cases g : P 2 n 2 = 0 ∧ least ≤ tBr P n ∧ tBetter P (tBestN P least n) n = true
    · rw [if_pos g] at h
      cases h
      exact ⟨by omega, g.1, g.2.1⟩
    · rw [if_neg g] at h
      have := tBestN_lt n j h
      exact ⟨by omega, this.2⟩
/-- lamps have a life -/
def tLife (P : zP) : Prop := ∀ l, l < pcn P 8 → P 2 l 0 ≠ 0
section ZTW8
variable {G : zG} {μ : zM} {m : Nat} {lam : Nat → Nat} {K : Nat → Nat → Int32} {P : zP}
theorem C2_barOfEvent {day slot many : Int32} (hT : zTP G μ m lam K P) : Meets G 3 MX2_barOfEvent [.ref m, .int day, .int slot, .int many] μ (zPure (.int (tBar P day slot many)) μ) 0 0 := by
  have hm := hT.m
  have h1 := hT.a1
  obtain ⟨hne, -⟩ := hT.2.2.e
  have bad : ¬ (P 0 0 6 ≤ day ∧ day ≤ P 0 0 6 + 60 ∧ 0 ≤ slot ∧ slot ≤ 5 ∧ 1 ≤ many ∧ many ≤ 6 ∧ slot + many ≤ 6) → ∀ L, AW G 3 MX2_barOfEvent (zPure (.int (tBar P day slot many)) μ) 0 0 51 L [] μ := by
    intro h L
    refine aw_bipush (v := (-2)) (q := 53) dX2_barOfEvent_51 rfl rfl ?_
    exact aw_ireturn dX2_barOfEvent_53 rfl (by first | rfl | exact zB_nar _) (by refine ⟨?_, rfl⟩; rw [tBar, if_neg h])
  refine meets_of (by decide +kernel) (Nat.le_of_ble_eq_true rfl) ?_
  refine aw_iload_n (i := 1) (q := 1) dX2_barOfEvent_0 rfl rfl rfl ?_
  first | refine aw_aload_n (i := 0) (q := 2) dX2_barOfEvent_1 rfl rfl rfl ?_ | refine aw_aloadN_n (i := 0) (q := 2) dX2_barOfEvent_1 rfl rfl rfl ?_ | refine aw_aloadQ_n (i := 0) (q := 2) dX2_barOfEvent_1 rfl rfl rfl ?_
  refine aw_getfield (q := 5) dX2_barOfEvent_2 gf_X2_7_2 (by assumption) rfl rfl ?_
  refine aw_bipush (v := 6) (q := 7) dX2_barOfEvent_5 rfl rfl ?_
  refine aw_iald (q := 8) (v := P 0 0 6) (6) dX2_barOfEvent_7 (by assumption) (by first | assumption | (simp only [← nI_add, ← pk_mul]; rfl) | rfl) (by omega) (by omega) (hT.2.1.g (by omega)) rfl ?_
  first | refine aw_aload_n (i := 0) (q := 9) dX2_barOfEvent_8 rfl rfl rfl ?_ | refine aw_aloadN_n (i := 0) (q := 9) dX2_barOfEvent_8 rfl rfl rfl ?_ | refine aw_aloadQ_n (i := 0) (q := 9) dX2_barOfEvent_8 rfl rfl rfl ?_
  refine aw_getfield (q := 12) dX2_barOfEvent_9 gf_X2_7_2 (by assumption) rfl rfl ?_
  refine aw_bipush (v := 6) (q := 14) dX2_barOfEvent_12 rfl rfl ?_
  refine aw_iald (q := 15) (v := P 0 0 6) (6) dX2_barOfEvent_14 (by assumption) (by first | assumption | (simp only [← nI_add, ← pk_mul]; rfl) | rfl) (by omega) (by omega) (hT.2.1.g (by omega)) rfl ?_
  refine aw_bipush (v := 60) (q := 17) dX2_barOfEvent_15 rfl rfl ?_
  refine aw_iadd (q := 18) dX2_barOfEvent_17 rfl ?_
  refine aw_callS (q := 21) dX2_barOfEvent_18 (C2_in) cs_X2_49 rfl rfl (by decide) (by decide) (by first | exact Nat.le_of_ble_eq_true rfl | simp [zcat_rf, Value.category]) rfl (zpk ?_)
  refine aw_if_eq (tgt := 51) (q := 24) dX2_barOfEvent_21 (by decide) rfl (fun ha => ?_) (fun ha => ?_)
  · skip
    exact bad (fun h => zB_0 ha ⟨h.1, h.2.1⟩) _
  · refine aw_iload_n (i := 2) (q := 25) dX2_barOfEvent_24 rfl rfl rfl ?_
    refine aw_iconst (v := 0) (q := 26) dX2_barOfEvent_25 rfl rfl ?_
    refine aw_iconst (v := 5) (q := 27) dX2_barOfEvent_26 rfl rfl ?_
    have ha := zB_1 ha
    refine aw_callS (q := 30) dX2_barOfEvent_27 (C2_in) cs_X2_49 rfl rfl (by decide) (by decide) (by first | exact Nat.le_of_ble_eq_true rfl | simp [zcat_rf, Value.category]) rfl (zpk ?_)
    refine aw_if_eq (tgt := 51) (q := 33) dX2_barOfEvent_30 (by decide) rfl (fun hb => ?_) (fun hb => ?_)
    · skip
      exact bad (fun h => zB_0 hb ⟨h.2.2.1, h.2.2.2.1⟩) _
    · refine aw_iload_n (i := 3) (q := 34) dX2_barOfEvent_33 rfl rfl rfl ?_
      refine aw_iconst (v := 1) (q := 35) dX2_barOfEvent_34 rfl rfl ?_
      refine aw_bipush (v := 6) (q := 37) dX2_barOfEvent_35 rfl rfl ?_
      have hb := zB_1 hb
      refine aw_callS (q := 40) dX2_barOfEvent_37 (C2_in) cs_X2_49 rfl rfl (by decide) (by decide) (by first | exact Nat.le_of_ble_eq_true rfl | simp [zcat_rf, Value.category]) rfl (zpk ?_)
      refine aw_if_eq (tgt := 51) (q := 43) dX2_barOfEvent_40 (by decide) rfl (fun hc => ?_) (fun hc => ?_)
      · skip
        exact bad (fun h => zB_0 hc ⟨h.2.2.2.2.1, h.2.2.2.2.2.1⟩) _
      · refine aw_iload_n (i := 2) (q := 44) dX2_barOfEvent_43 rfl rfl rfl ?_
        refine aw_iload_n (i := 3) (q := 45) dX2_barOfEvent_44 rfl rfl rfl ?_
        refine aw_iadd (q := 46) dX2_barOfEvent_45 rfl ?_
        refine aw_bipush (v := 6) (q := 48) dX2_barOfEvent_46 rfl rfl ?_
        have hc := zB_1 hc
        refine aw_icmp_le (tgt := 54) (q := 51) dX2_barOfEvent_48 (by decide) rfl (fun hd => ?_) (fun hd => ?_)
        · skip
          have ok : P 0 0 6 ≤ day ∧ day ≤ P 0 0 6 + 60 ∧ 0 ≤ slot ∧ slot ≤ 5 ∧ 1 ≤ many ∧ many ≤ 6 ∧ slot + many ≤ 6 := ⟨ha.1, ha.2, hb.1, hb.2, hc.1, hc.2, hd⟩
          obtain ⟨sl, hsl, es⟩ := nI_of2 (x := slot) (M := 5) (n := 5) (by decide) (Int32.not_lt.mpr hb.1) hb.2
          obtain ⟨mn, hmn, em⟩ := nI_of2 (x := many) (M := 6) (n := 6) (by decide) (Int32.not_lt.mpr (Int32.le_trans (by decide : (0 : Int32) ≤ 1) hc.1)) hc.2
          have cs : slot.toNatClampNeg = sl := by rw [es]; exact nI_clamp (by omega)
          have cm : many.toNatClampNeg = mn := by rw [em]; exact nI_clamp (by omega)
          have eB : tBar P day slot many = if P 0 0 11 = 20 then -4 else if tBusy P day sl mn = true then -5 else 0 := by rw [tBar, if_pos ok, cs, cm]
          rw [eB]
          subst es em
          first | refine aw_aload_n (i := 0) (q := 55) dX2_barOfEvent_54 rfl rfl rfl ?_ | refine aw_aloadN_n (i := 0) (q := 55) dX2_barOfEvent_54 rfl rfl rfl ?_ | refine aw_aloadQ_n (i := 0) (q := 55) dX2_barOfEvent_54 rfl rfl rfl ?_
          refine aw_getfield (q := 58) dX2_barOfEvent_55 gf_X2_7_2 (by assumption) rfl rfl ?_
          refine aw_bipush (v := 11) (q := 60) dX2_barOfEvent_58 rfl rfl ?_
          refine aw_iald (q := 61) (v := P 0 0 11) (11) dX2_barOfEvent_60 (by assumption) (by first | assumption | (simp only [← nI_add, ← pk_mul]; rfl) | rfl) (by omega) (by omega) (hT.2.1.g (by omega)) rfl ?_
          refine aw_bipush (v := 20) (q := 63) dX2_barOfEvent_61 rfl rfl ?_
          refine aw_icmp_ne (tgt := 69) (q := 66) dX2_barOfEvent_63 (by decide) rfl (fun he => ?_) (fun he => ?_)
          · refine aw_iload_n (i := 2) (q := 70) dX2_barOfEvent_69 rfl rfl rfl ?_
            refine aw_istore (q := 72) dX2_barOfEvent_70 (by decide) rfl ?_
            have loop : ∀ n e, e + n = mn → tBusy P day sl e = false → AW G 3 MX2_barOfEvent (zPure (.int (if P 0 0 11 = 20 then -4 else if tBusy P day sl mn = true then -5 else 0)) μ) 0 0 72 [(0, .ref m), (1, .int day), (2, .int (nI sl)), (3, .int (nI mn)), (4, .int (nI (sl + e)))] [] μ := by
              intro n
              induction n with
              | zero =>
                intro e hE hf
                refine aw_iload (q := 74) dX2_barOfEvent_72 rfl rfl ?_
                refine aw_iload_n (i := 2) (q := 75) dX2_barOfEvent_74 rfl rfl rfl ?_
                refine aw_iload_n (i := 3) (q := 76) dX2_barOfEvent_75 rfl rfl rfl ?_
                refine aw_iadd (q := 77) dX2_barOfEvent_76 rfl ?_
                rw [nI_add]
                refine aw_icmp_ge (tgt := 99) (q := 80) dX2_barOfEvent_77 (by decide) rfl (fun _ => ?_) (fun hc => absurd (nI_le (by omega) (by omega)) hc)
                refine aw_iconst (v := 0) (q := 100) dX2_barOfEvent_99 rfl rfl ?_
                exact aw_ireturn dX2_barOfEvent_100 rfl (by first | rfl | exact zB_nar _) (by refine ⟨?_, rfl⟩; rw [if_neg he, show mn = e by omega, hf]; rfl)
              | succ n ih =>
                intro e hE hf
                refine aw_iload (q := 74) dX2_barOfEvent_72 rfl rfl ?_
                refine aw_iload_n (i := 2) (q := 75) dX2_barOfEvent_74 rfl rfl rfl ?_
                refine aw_iload_n (i := 3) (q := 76) dX2_barOfEvent_75 rfl rfl rfl ?_
                refine aw_iadd (q := 77) dX2_barOfEvent_76 rfl ?_
                rw [nI_add]
                refine aw_icmp_ge (tgt := 99) (q := 80) dX2_barOfEvent_77 (by decide) rfl (fun hc => absurd hc (nI_ge (by omega) (by omega))) (fun _ => ?_)
                first | refine aw_aload_n (i := 0) (q := 81) dX2_barOfEvent_80 rfl rfl rfl ?_ | refine aw_aloadN_n (i := 0) (q := 81) dX2_barOfEvent_80 rfl rfl rfl ?_ | refine aw_aloadQ_n (i := 0) (q := 81) dX2_barOfEvent_80 rfl rfl rfl ?_
                refine aw_iload_n (i := 1) (q := 82) dX2_barOfEvent_81 rfl rfl rfl ?_
                refine aw_iload (q := 84) dX2_barOfEvent_82 rfl rfl ?_
                refine aw_callV (q := 87) dX2_barOfEvent_84 (C2_eventAt hT) cv_X2_78_2 (by assumption) rfl rfl (by decide) (by decide) (by first | exact Nat.le_of_ble_eq_true rfl | simp [zcat_rf, Value.category]) rfl (zpk ?_)
                refine aw_if_lt (tgt := 93) (q := 90) dX2_barOfEvent_87 (by decide) rfl (fun hg => ?_) (fun hg => ?_)
                · refine aw_iinc (q := 96) dX2_barOfEvent_93 rfl (by first | exact nI_1 _ | rfl) (by decide) rfl ?_
                  refine aw_goto (tgt := 72) dX2_barOfEvent_96 (by decide) ?_
                  exact aw_locals (by exact ⟨rfl, rfl, rfl, rfl, rfl, trivial⟩) (ih (e + 1) (by omega) (by rw [tBusy, hf]; simp [Int32.not_le.mpr hg]))
                · refine aw_bipush (v := (-5)) (q := 92) dX2_barOfEvent_90 rfl rfl ?_
                  have busy : ∀ k, e < k → tBusy P day sl k = true := by
                    intro k
                    induction k with
                    | zero => intro h; omega
                    | succ k ihk =>
                      intro h
                      rw [tBusy]
                      by_cases q : e = k
                      · subst q; simp [Int32.not_lt.mp hg]
                      · rw [ihk (by omega)]; rfl
                  exact aw_ireturn dX2_barOfEvent_92 rfl (by first | rfl | exact zB_nar _) (by refine ⟨?_, rfl⟩; rw [if_neg he, if_pos (busy mn (by omega))])
            exact aw_locals (by exact ⟨rfl, rfl, rfl, rfl, rfl, trivial⟩) (loop mn 0 (by omega) rfl)
          · refine aw_bipush (v := (-4)) (q := 68) dX2_barOfEvent_66 rfl rfl ?_
            exact aw_ireturn dX2_barOfEvent_68 rfl (by first | rfl | exact zB_nar _) (by refine ⟨?_, rfl⟩; rw [if_pos he])
        · skip
          exact bad (fun h => hd h.2.2.2.2.2.2) _
theorem C2_hasLight {least : Int32} (hT : zTP G μ m lam K P) (hL : tLife P) : Meets G 3 MX2_hasLight [.ref m, .int least] μ (tPost G μ m lam K (tLight P least) (some (.int (zB (tHasD P least = true))))) 0 0 := by
  have hm := hT.m
  have h1 := hT.a1
  obtain ⟨hn, hN⟩ := hT.2.2.l
  have fin : tLitD P least = false → ∀ L, zLs L [(0, .ref m), (1, .int least), (3, .int (zNo (tBest P least)))] → AW G 3 MX2_hasLight (tPost G μ m lam K (tLight P least) (some (.int (zB (tHasD P least = true))))) 0 0 108 L [] μ := by
    intro hl L hL0
    refine aw_locals hL0 ?_
    first | refine aw_aload_n (i := 0) (q := 109) dX2_hasLight_108 rfl rfl rfl ?_ | refine aw_aloadN_n (i := 0) (q := 109) dX2_hasLight_108 rfl rfl rfl ?_ | refine aw_aloadQ_n (i := 0) (q := 109) dX2_hasLight_108 rfl rfl rfl ?_
    refine aw_getfield (q := 112) dX2_hasLight_109 gf_X2_7_2 (by assumption) rfl rfl ?_
    refine aw_iconst (v := 5) (q := 113) dX2_hasLight_112 rfl rfl ?_
    refine aw_iald (q := 114) (v := P 0 0 5) (5) dX2_hasLight_113 (by assumption) (by first | assumption | (simp only [← nI_add, ← pk_mul]; rfl) | rfl) (by omega) (by omega) (hT.2.1.g (by omega)) rfl ?_
    refine aw_if_eq (tgt := 121) (q := 117) dX2_hasLight_114 (by decide) rfl (fun ha => ?_) (fun ha => ?_)
    · refine aw_iconst (v := 0) (q := 122) dX2_hasLight_121 rfl rfl ?_
      exact aw_ireturn dX2_hasLight_122 rfl (by first | rfl | exact zB_nar _) (⟨by rw [zB_f]; simp [tHasD, hl, ha], ⟨K 1, by rw [setK_self, tLight, if_neg (by rw [hl]; decide), if_pos ha]; exact hT⟩, zKp.rf⟩)
    · skip
      cases hb : tBest P least with
      | none =>
        refine aw_iload_n (i := 3) (q := 118) dX2_hasLight_117 rfl rfl rfl ?_
        refine aw_if_ge (tgt := 123) (q := 121) dX2_hasLight_118 (by decide) rfl (fun hc => absurd hc ((by decide))) (fun _ => ?_)
        refine aw_iconst (v := 0) (q := 122) dX2_hasLight_121 rfl rfl ?_
        exact aw_ireturn dX2_hasLight_122 rfl (by first | rfl | exact zB_nar _) (⟨by rw [zB_f]; simp [tHasD, hl, hb], ⟨K 1, by rw [setK_self, tLight, if_neg (by rw [hl]; decide), if_neg ha, hb]; exact hT⟩, zKp.rf⟩)
      | some j =>
        have hj := (tBestN_lt _ _ hb).1
        refine aw_iload_n (i := 3) (q := 118) dX2_hasLight_117 rfl rfl rfl ?_
        refine aw_if_ge (tgt := 123) (q := 121) dX2_hasLight_118 (by decide) rfl (fun _ => ?_) (fun hc => absurd (nI_pos' (by omega)) hc)
        first | refine aw_aload_n (i := 0) (q := 124) dX2_hasLight_123 rfl rfl rfl ?_ | refine aw_aloadN_n (i := 0) (q := 124) dX2_hasLight_123 rfl rfl rfl ?_ | refine aw_aloadQ_n (i := 0) (q := 124) dX2_hasLight_123 rfl rfl rfl ?_
        refine aw_iload_n (i := 3) (q := 125) dX2_hasLight_124 rfl rfl rfl ?_
        refine aw_callV (q := 128) dX2_hasLight_125 (C2_putIn hT rfl (by omega)) cv_X2_71_2 (by assumption) rfl rfl (by decide) (by decide) (by first | exact Nat.le_of_ble_eq_true rfl | simp [zcat_rf, Value.category]) rfl (fun v125 μ1 hp => ?_)
        obtain ⟨rfl, ⟨n1, hT1⟩, hk1⟩ := hp
        refine aw_pop (q := 129) dX2_hasLight_128 (by first | rfl | exact zcat_rf _) rfl ?_
        refine aw_iconst (v := 1) (q := 130) dX2_hasLight_129 rfl rfl ?_
        exact aw_ireturn dX2_hasLight_130 rfl (by first | rfl | exact zB_nar _) (⟨by rw [zB_t]; simp [tHasD, ha, hb], ⟨n1, by rw [tLight, if_neg (by rw [hl]; decide), if_neg ha, hb]; exact hT1⟩, hk1⟩)
  have loop : ∀ n l, l + n = pcn P 8 → tLitD P least = false → AW G 3 MX2_hasLight (tPost G μ m lam K (tLight P least) (some (.int (zB (tHasD P least = true))))) 0 0 26 [(0, .ref m), (1, .int least), (3, .int (zNo (tBestN P least l))), (4, .int (nI l))] [] μ := by
    intro n
    induction n with
    | zero =>
      intro l hl hf
      refine aw_iload (q := 28) dX2_hasLight_26 rfl rfl ?_
      first | refine aw_aload_n (i := 0) (q := 29) dX2_hasLight_28 rfl rfl rfl ?_ | refine aw_aloadN_n (i := 0) (q := 29) dX2_hasLight_28 rfl rfl rfl ?_ | refine aw_aloadQ_n (i := 0) (q := 29) dX2_hasLight_28 rfl rfl rfl ?_
      refine aw_getfield (q := 32) dX2_hasLight_29 gf_X2_7_2 (by assumption) rfl rfl ?_
      refine aw_bipush (v := 8) (q := 34) dX2_hasLight_32 rfl rfl ?_
      refine aw_iald (q := 35) (v := nI (pcn P 8)) (8) dX2_hasLight_34 (by assumption) (by first | assumption | (simp only [← nI_add, ← pk_mul]; rfl) | rfl) (by omega) (by omega) ((hT.2.1.g (by omega)).trans hn) rfl ?_
      refine aw_icmp_ge (tgt := 108) (q := 38) dX2_hasLight_35 (by decide) rfl (fun _ => ?_) (fun hc => absurd (nI_le (by omega) (by omega)) hc)
      exact fin hf _ ⟨rfl, rfl, by rw [tBest, show pcn P 8 = l by omega]; rfl, trivial⟩
    | succ n ih =>
      intro l hl hf
      have hlt : l < pcn P 8 := by omega
      have skip : ¬ (P 2 l 2 = 0 ∧ least ≤ tBr P l ∧ tBetter P (tBestN P least l) l = true) → tBestN P least (l + 1) = tBestN P least l := by
        intro h
        show (if _ then _ else _) = _
        rw [if_neg h]
      have take : (P 2 l 2 = 0 ∧ least ≤ tBr P l ∧ tBetter P (tBestN P least l) l = true) → tBestN P least (l + 1) = some l := by
        intro h
        show (if _ then _ else _) = _
        rw [if_pos h]
      refine aw_iload (q := 28) dX2_hasLight_26 rfl rfl ?_
      first | refine aw_aload_n (i := 0) (q := 29) dX2_hasLight_28 rfl rfl rfl ?_ | refine aw_aloadN_n (i := 0) (q := 29) dX2_hasLight_28 rfl rfl rfl ?_ | refine aw_aloadQ_n (i := 0) (q := 29) dX2_hasLight_28 rfl rfl rfl ?_
      refine aw_getfield (q := 32) dX2_hasLight_29 gf_X2_7_2 (by assumption) rfl rfl ?_
      refine aw_bipush (v := 8) (q := 34) dX2_hasLight_32 rfl rfl ?_
      refine aw_iald (q := 35) (v := nI (pcn P 8)) (8) dX2_hasLight_34 (by assumption) (by first | assumption | (simp only [← nI_add, ← pk_mul]; rfl) | rfl) (by omega) (by omega) ((hT.2.1.g (by omega)).trans hn) rfl ?_
      refine aw_icmp_ge (tgt := 108) (q := 38) dX2_hasLight_35 (by decide) rfl (fun hc => absurd hc (nI_ge hlt (by omega))) (fun _ => ?_)
      first | refine aw_aload_n (i := 0) (q := 39) dX2_hasLight_38 rfl rfl rfl ?_ | refine aw_aloadN_n (i := 0) (q := 39) dX2_hasLight_38 rfl rfl rfl ?_ | refine aw_aloadQ_n (i := 0) (q := 39) dX2_hasLight_38 rfl rfl rfl ?_
      refine aw_getfield (q := 42) dX2_hasLight_39 gf_X2_7_2 (by assumption) rfl rfl ?_
      refine aw_bipush (v := 50) (q := 44) dX2_hasLight_42 rfl rfl ?_
      refine aw_iconst (v := 4) (q := 45) dX2_hasLight_44 rfl rfl ?_
      refine aw_iload (q := 47) dX2_hasLight_45 rfl rfl ?_
      refine aw_imul (q := 48) dX2_hasLight_47 rfl ?_
      refine aw_iadd (q := 49) dX2_hasLight_48 rfl ?_
      refine aw_iconst (v := 2) (q := 50) dX2_hasLight_49 rfl rfl ?_
      refine aw_iadd (q := 51) dX2_hasLight_50 rfl ?_
      refine aw_iald (q := 52) (v := P 2 l 2) (50 + 4 * l + 2) dX2_hasLight_51 (by assumption) (by first | assumption | (simp only [← nI_add, ← pk_mul]; rfl) | rfl) (by omega) (by omega) (hT.2.1.la (by omega) (by omega)) rfl ?_
      refine aw_if_ne (tgt := 69) (q := 55) dX2_hasLight_52 (by decide) rfl (fun ha => ?_) (fun ha => ?_)
      · refine aw_iconst (v := 0) (q := 70) dX2_hasLight_69 rfl rfl ?_
        refine aw_istore (q := 72) dX2_hasLight_70 (by decide) rfl ?_
        refine aw_iload (q := 74) dX2_hasLight_72 rfl rfl ?_
        refine aw_if_eq (tgt := 100) (q := 77) dX2_hasLight_74 (by decide) rfl (fun _ => ?_) (fun hc => absurd (rfl) hc)
        refine aw_iload_n (i := 3) (q := 101) dX2_hasLight_100 rfl rfl rfl ?_
        refine aw_istore_n (i := 3) (q := 102) dX2_hasLight_101 rfl (by decide) rfl ?_
        refine aw_iinc (q := 105) dX2_hasLight_102 rfl (by first | exact nI_1 _ | rfl) (by decide) rfl ?_
        refine aw_goto (tgt := 26) dX2_hasLight_105 (by decide) ?_
        exact aw_locals (by exact ⟨rfl, rfl, by rw [skip (fun h => ha h.1)]; rfl, rfl, trivial⟩) (ih (l + 1) (by omega) hf)
      · first | refine aw_aload_n (i := 0) (q := 56) dX2_hasLight_55 rfl rfl rfl ?_ | refine aw_aloadN_n (i := 0) (q := 56) dX2_hasLight_55 rfl rfl rfl ?_ | refine aw_aloadQ_n (i := 0) (q := 56) dX2_hasLight_55 rfl rfl rfl ?_
        refine aw_iload (q := 58) dX2_hasLight_56 rfl rfl ?_
        refine aw_callV (q := 61) dX2_hasLight_58 (C2_brightOf hT rfl (by omega) (hL l hlt)) cv_X2_140_2 (by assumption) rfl rfl (by decide) (by decide) (by first | exact Nat.le_of_ble_eq_true rfl | simp [zcat_rf, Value.category]) rfl (zpk ?_)
        refine aw_iload_n (i := 1) (q := 62) dX2_hasLight_61 rfl rfl rfl ?_
        refine aw_icmp_lt (tgt := 69) (q := 65) dX2_hasLight_62 (by decide) rfl (fun hb => ?_) (fun hb => ?_)
        · refine aw_iconst (v := 0) (q := 70) dX2_hasLight_69 rfl rfl ?_
          refine aw_istore (q := 72) dX2_hasLight_70 (by decide) rfl ?_
          refine aw_iload (q := 74) dX2_hasLight_72 rfl rfl ?_
          refine aw_if_eq (tgt := 100) (q := 77) dX2_hasLight_74 (by decide) rfl (fun _ => ?_) (fun hc => absurd (rfl) hc)
          refine aw_iload_n (i := 3) (q := 101) dX2_hasLight_100 rfl rfl rfl ?_
          refine aw_istore_n (i := 3) (q := 102) dX2_hasLight_101 rfl (by decide) rfl ?_
          refine aw_iinc (q := 105) dX2_hasLight_102 rfl (by first | exact nI_1 _ | rfl) (by decide) rfl ?_
          refine aw_goto (tgt := 26) dX2_hasLight_105 (by decide) ?_
          exact aw_locals (by exact ⟨rfl, rfl, by rw [skip (fun h => absurd h.2.1 (Int32.not_le.mpr hb))]; rfl, rfl, trivial⟩) (ih (l + 1) (by omega) hf)
        · refine aw_iconst (v := 1) (q := 66) dX2_hasLight_65 rfl rfl ?_
          refine aw_goto (tgt := 70) dX2_hasLight_66 (by decide) ?_
          refine aw_istore (q := 72) dX2_hasLight_70 (by decide) rfl ?_
          refine aw_iload (q := 74) dX2_hasLight_72 rfl rfl ?_
          refine aw_if_eq (tgt := 100) (q := 77) dX2_hasLight_74 (by decide) rfl (fun hc => absurd hc ((by decide))) (fun _ => ?_)
          cases hc : tBestN P least l with
          | none =>
            rw [hc] at take
            refine aw_iload_n (i := 3) (q := 78) dX2_hasLight_77 rfl rfl rfl ?_
            refine aw_if_lt (tgt := 95) (q := 81) dX2_hasLight_78 (by decide) rfl (fun _ => ?_) (fun hc => absurd ((by decide : (-6 : Int32) < 0)) hc)
            refine aw_iload (q := 97) dX2_hasLight_95 rfl rfl ?_
            refine aw_goto (tgt := 101) dX2_hasLight_97 (by decide) ?_
            refine aw_istore_n (i := 3) (q := 102) dX2_hasLight_101 rfl (by decide) rfl ?_
            refine aw_iinc (q := 105) dX2_hasLight_102 rfl (by first | exact nI_1 _ | rfl) (by decide) rfl ?_
            refine aw_goto (tgt := 26) dX2_hasLight_105 (by decide) ?_
            exact aw_locals (by exact ⟨rfl, rfl, by rw [take ⟨ha, Int32.not_lt.mp hb, rfl⟩]; rfl, rfl, trivial⟩) (ih (l + 1) (by omega) hf)
          | some j =>
            have hj := (tBestN_lt _ _ hc).1
            rw [hc] at take skip
            refine aw_iload_n (i := 3) (q := 78) dX2_hasLight_77 rfl rfl rfl ?_
            refine aw_if_lt (tgt := 95) (q := 81) dX2_hasLight_78 (by decide) rfl (fun hc => absurd hc (nI_pos (by omega))) (fun _ => ?_)
            first | refine aw_aload_n (i := 0) (q := 82) dX2_hasLight_81 rfl rfl rfl ?_ | refine aw_aloadN_n (i := 0) (q := 82) dX2_hasLight_81 rfl rfl rfl ?_ | refine aw_aloadQ_n (i := 0) (q := 82) dX2_hasLight_81 rfl rfl rfl ?_
            refine aw_iload (q := 84) dX2_hasLight_82 rfl rfl ?_
            refine aw_callV (q := 87) dX2_hasLight_84 (C2_brightOf hT rfl (by omega) (hL l hlt)) cv_X2_140_2 (by assumption) rfl rfl (by decide) (by decide) (by first | exact Nat.le_of_ble_eq_true rfl | simp [zcat_rf, Value.category]) rfl (zpk ?_)
            first | refine aw_aload_n (i := 0) (q := 88) dX2_hasLight_87 rfl rfl rfl ?_ | refine aw_aloadN_n (i := 0) (q := 88) dX2_hasLight_87 rfl rfl rfl ?_ | refine aw_aloadQ_n (i := 0) (q := 88) dX2_hasLight_87 rfl rfl rfl ?_
            refine aw_iload_n (i := 3) (q := 89) dX2_hasLight_88 rfl rfl rfl ?_
            refine aw_callV (q := 92) dX2_hasLight_89 (C2_brightOf hT rfl (by omega) (hL j (by omega))) cv_X2_140_2 (by assumption) rfl rfl (by decide) (by decide) (by first | exact Nat.le_of_ble_eq_true rfl | simp [zcat_rf, Value.category]) rfl (zpk ?_)
            refine aw_icmp_le (tgt := 100) (q := 95) dX2_hasLight_92 (by decide) rfl (fun hd => ?_) (fun hd => ?_)
            · refine aw_iload_n (i := 3) (q := 101) dX2_hasLight_100 rfl rfl rfl ?_
              refine aw_istore_n (i := 3) (q := 102) dX2_hasLight_101 rfl (by decide) rfl ?_
              refine aw_iinc (q := 105) dX2_hasLight_102 rfl (by first | exact nI_1 _ | rfl) (by decide) rfl ?_
              refine aw_goto (tgt := 26) dX2_hasLight_105 (by decide) ?_
              exact aw_locals (by exact ⟨rfl, rfl, by rw [skip (fun h => absurd (of_decide_eq_true h.2.2) (Int32.not_lt.mpr hd))]; rfl, rfl, trivial⟩) (ih (l + 1) (by omega) hf)
            · refine aw_iload (q := 97) dX2_hasLight_95 rfl rfl ?_
              refine aw_goto (tgt := 101) dX2_hasLight_97 (by decide) ?_
              refine aw_istore_n (i := 3) (q := 102) dX2_hasLight_101 rfl (by decide) rfl ?_
              refine aw_iinc (q := 105) dX2_hasLight_102 rfl (by first | exact nI_1 _ | rfl) (by decide) rfl ?_
              refine aw_goto (tgt := 26) dX2_hasLight_105 (by decide) ?_
              exact aw_locals (by exact ⟨rfl, rfl, by rw [take ⟨ha, Int32.not_lt.mp hb, decide_eq_true (Int32.not_le.mp hd)⟩]; rfl, rfl, trivial⟩) (ih (l + 1) (by omega) hf)
  refine meets_of (by decide +kernel) (Nat.le_of_ble_eq_true rfl) ?_
  first | refine aw_aload_n (i := 0) (q := 1) dX2_hasLight_0 rfl rfl rfl ?_ | refine aw_aloadN_n (i := 0) (q := 1) dX2_hasLight_0 rfl rfl rfl ?_ | refine aw_aloadQ_n (i := 0) (q := 1) dX2_hasLight_0 rfl rfl rfl ?_
  refine aw_callV (q := 4) dX2_hasLight_1 (C2_fitted hT) cv_X2_64_2 (by assumption) rfl rfl (by decide) (by decide) (by first | exact Nat.le_of_ble_eq_true rfl | simp [zcat_rf, Value.category]) rfl (zpk ?_)
  refine aw_istore_n (i := 2) (q := 5) dX2_hasLight_4 rfl (by decide) rfl ?_
  refine aw_iload_n (i := 2) (q := 6) dX2_hasLight_5 rfl rfl rfl ?_
  refine aw_if_lt (tgt := 20) (q := 9) dX2_hasLight_6 (by decide) rfl (fun hx => ?_) (fun hx => ?_)
  · refine aw_bipush (v := (-6)) (q := 22) dX2_hasLight_20 rfl rfl ?_
    refine aw_istore_n (i := 3) (q := 23) dX2_hasLight_22 rfl (by decide) rfl ?_
    refine aw_iconst (v := 0) (q := 24) dX2_hasLight_23 rfl rfl ?_
    refine aw_istore (q := 26) dX2_hasLight_24 (by decide) rfl ?_
    exact aw_locals (by exact ⟨rfl, rfl, rfl, rfl, trivial⟩) (loop (pcn P 8) 0 (by omega) (by simp [tLitD, Int32.not_le.mpr hx]))
  · skip
    obtain ⟨j, hj, e, -⟩ : ∃ j, j < pcn P 8 ∧ tFit P = nI j ∧ P 2 j 2 = 1 := by
      rcases tFitted_lt (P := P) (pcn P 8) with q | q
      · exact absurd (show tFit P < 0 by rw [tFit, q]; decide) hx
      · exact q
    have ec : (nI j).toNatClampNeg = j := nI_clamp (by omega)
    have hl : tLitD P least = decide (least ≤ tBr P j) := by
      have h0 : (0 : Int32) ≤ nI j := nI_pos' (by omega)
      rw [tLitD, e, ec]; simp [h0]
    rw [e]
    first | refine aw_aload_n (i := 0) (q := 10) dX2_hasLight_9 rfl rfl rfl ?_ | refine aw_aloadN_n (i := 0) (q := 10) dX2_hasLight_9 rfl rfl rfl ?_ | refine aw_aloadQ_n (i := 0) (q := 10) dX2_hasLight_9 rfl rfl rfl ?_
    refine aw_iload_n (i := 2) (q := 11) dX2_hasLight_10 rfl rfl rfl ?_
    refine aw_callV (q := 14) dX2_hasLight_11 (C2_brightOf hT rfl (by omega) (hL j hj)) cv_X2_140_2 (by assumption) rfl rfl (by decide) (by decide) (by first | exact Nat.le_of_ble_eq_true rfl | simp [zcat_rf, Value.category]) rfl (zpk ?_)
    refine aw_iload_n (i := 1) (q := 15) dX2_hasLight_14 rfl rfl rfl ?_
    refine aw_icmp_lt (tgt := 20) (q := 18) dX2_hasLight_15 (by decide) rfl (fun hy => ?_) (fun hy => ?_)
    · refine aw_bipush (v := (-6)) (q := 22) dX2_hasLight_20 rfl rfl ?_
      refine aw_istore_n (i := 3) (q := 23) dX2_hasLight_22 rfl (by decide) rfl ?_
      refine aw_iconst (v := 0) (q := 24) dX2_hasLight_23 rfl rfl ?_
      refine aw_istore (q := 26) dX2_hasLight_24 (by decide) rfl ?_
      exact aw_locals (by exact ⟨rfl, rfl, rfl, rfl, trivial⟩) (loop (pcn P 8) 0 (by omega) (by rw [hl]; exact decide_eq_false (Int32.not_le.mpr hy)))
    · refine aw_iconst (v := 1) (q := 19) dX2_hasLight_18 rfl rfl ?_
      have hl' : tLitD P least = true := by rw [hl]; exact decide_eq_true (Int32.not_lt.mp hy)
      exact aw_ireturn dX2_hasLight_19 rfl (by first | rfl | exact zB_nar _) (⟨by rw [zB_t]; simp [tHasD, hl'], ⟨K 1, by rw [setK_self, tLight, if_pos hl']; exact hT⟩, zKp.rf⟩)
end ZTW8
