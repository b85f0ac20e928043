/-! THE TWIN, part 12: passDay -/
set_option maxRecDepth 100000
/-- what a day's shows leave alone -/
def tOc (s c : Nat) : Prop := (s = 0 ∨ s = 1 ∨ s = 5) ∨ (s = 2 ∧ c = 0) ∨ (s = 3 ∧ (c < 3 ∨ c = 6)) ∨ (s = 4 ∧ (c < 4 ∨ c = 5)) ∨ (s = 6 ∧ c < 5)
theorem tHold_o {P : zP} {D : Nat → Int32} {s s' i c : Nat} (h : tOc s' c) : (tHold P D s).1 s' i c = P s' i c := by
  unfold tOc at h
  unfold tHold
  split
  · unfold tHoldLit
    dsimp only
    rw [updP_ne (by omega)]
    unfold tHeld tClose
    rw [tCloseN_same _ s' i c (by omega)]
    unfold tWorn
    rw [updP_ne (by omega), updP_ne (by omega), updP_ne (by omega), updP_ne (by omega), updP_ne (by omega)]
    exact tLight_o (by omega)
  · unfold tClose
    rw [tCloseN_same _ s' i c (by omega), updP_ne (by omega)]
/-- the invariant that the twin's days need -/
def tDI (P : zP) : Prop := tOk P ∧ tBkOk P ∧ tLife P ∧ tKi P
theorem tDI.congr {P Q : zP} (h : tDI P) (e : ∀ s i c, tOc s c → Q s i c = P s i c) : tDI Q := by
  obtain ⟨h1, h2, h3, h4⟩ := h
  have ec : ∀ c, pcn Q c = pcn P c := fun c => by unfold pcn; rw [e 0 0 c (by unfold tOc; omega)]
  refine ⟨h1.congr (fun c _ _ => e 0 0 c (by unfold tOc; omega)), h2.congr (fun b => e 4 b 0 (by unfold tOc; omega)) (ec 9) (ec 10), fun l hl => ?_, fun s hs => ?_⟩
  · rw [ec] at hl
    rw [e 2 l 0 (by unfold tOc; omega)]
    exact h3 l hl
  · rw [ec] at hs
    unfold tKd
    rw [e 3 s 0 (by unfold tOc; omega), ec]
    exact h4 s hs
/-- the shows of a day, the first n slots -/
def tSlotN (P : zP) (D : Nat → Int32) : Nat → zP × (Nat → Int32)
  | 0 => (P, D)
  | n + 1 => if tPlannedAt (tSlotN P D n).1 (P 0 0 6) (nI n) < 0 then tSlotN P D n else tHold (tSlotN P D n).1 (tSlotN P D n).2 (tPlannedAt (tSlotN P D n).1 (P 0 0 6) (nI n)).toNatClampNeg
theorem tSlotN_o {P : zP} {D : Nat → Int32} {s i c : Nat} (h : tOc s c) : ∀ n, (tSlotN P D n).1 s i c = P s i c
  | 0 => rfl
  | n + 1 => by
    unfold tSlotN
    split
    · exact tSlotN_o h n
    · exact (tHold_o h).trans (tSlotN_o h n)
/-- the promises whose last day it is, the first n -/
def tPromN (Q : zP) (n : Nat) : zP := fun s i c => if s = 6 ∧ c = 4 ∧ i < n ∧ Q 6 i 4 = 0 ∧ Q 6 i 3 = Q 0 0 6 then (if Q 6 i 2 ≤ Q 6 i 5 then 1 else 2) else Q s i c
theorem tPromN_o {Q : zP} {n s i c : Nat} (h : s ≠ 6 ∨ c ≠ 4 ∨ n ≤ i) : tPromN Q n s i c = Q s i c := by
  unfold tPromN; rw [if_neg (by omega)]
theorem tPromN_s {Q : zP} {n : Nat} (h : ¬ (Q 6 n 4 = 0 ∧ Q 6 n 3 = Q 0 0 6)) : tPromN Q (n + 1) = tPromN Q n := by
  funext s i c
  unfold tPromN
  by_cases hi : i = n
  · subst hi
    rw [if_neg (by intro q; exact h q.2.2.2), if_neg (by omega)]
  · have e : (i < n + 1) = (i < n) := by apply propext; omega
    simp only [e]
theorem tPromN_t {Q : zP} {n : Nat} (h : Q 6 n 4 = 0 ∧ Q 6 n 3 = Q 0 0 6) : updP (tPromN Q n) 6 n 4 (if Q 6 n 2 ≤ Q 6 n 5 then 1 else 2) = tPromN Q (n + 1) := by
  funext s i c
  by_cases e : s = 6 ∧ i = n ∧ c = 4
  · obtain ⟨rfl, rfl, rfl⟩ := e
    rw [updP_eq]
    exact Eq.symm (if_pos ⟨rfl, rfl, by omega, h⟩)
  · rw [updP_ne e]
    unfold tPromN
    by_cases hi : i = n
    · subst hi
      rw [if_neg (by omega), if_neg (by omega)]
    · have e : (i < n + 1) = (i < n) := by apply propext; omega
      simp only [e]
def tDay (Q : zP) : zP := updP (tPromN Q (pcn Q 12)) 0 0 6 (Q 0 0 6 + 1)
def tPass (P : zP) (D : Nat → Int32) : zP × (Nat → Int32) := (tDay (tSlotN P D 6).1, (tSlotN P D 6).2)
section ZTW11
variable {G : zG} {μ : zM} {m : Nat} {lam : Nat → Nat} {K : Nat → Nat → Int32} {P : zP}
theorem pass_loop2 {Q : zP} {D : Nat → Int32} (hQ : tOk Q) : ∀ n e, e + n = pcn Q 12 → ∀ (μ1 : zM) (f : Nat → Int32), zTP G μ1 m lam (setK (setK K 8 D) 1 f) (tPromN Q e) → zKp tTw μ μ1 → AW G 6 MX2_passDay (tPost8 G μ m lam K (tDay Q) D none) 0 0 38 [(0, .ref m), (1, .int (nI e))] [] μ1 := by
  intro n
  obtain ⟨hn, hN⟩ := hQ.p
  induction n with
  | zero =>
    intro e he μ1 f hT hk
    have hm := hT.m
    have h1 := hT.a1
    refine aw_iload_n (i := 1) (q := 39) dX2_passDay_38 rfl rfl rfl ?_
    first | refine aw_aload_n (i := 0) (q := 40) dX2_passDay_39 rfl rfl rfl ?_ | refine aw_aloadN_n (i := 0) (q := 40) dX2_passDay_39 rfl rfl rfl ?_ | refine aw_aloadQ_n (i := 0) (q := 40) dX2_passDay_39 rfl rfl rfl ?_
    refine aw_getfield (q := 43) dX2_passDay_40 gf_X2_7_2 (by assumption) rfl rfl ?_
    refine aw_bipush (v := 12) (q := 45) dX2_passDay_43 rfl rfl ?_
    refine aw_iald (q := 46) (v := nI (pcn Q 12)) (12) dX2_passDay_45 (by assumption) (by first | assumption | (simp only [← nI_add, ← pk_mul]; rfl) | rfl) (by omega) (by omega) ((hT.2.1.g (by omega)).trans ((tPromN_o (by omega)).trans hn)) rfl ?_
    refine aw_icmp_ge (tgt := 125) (q := 49) dX2_passDay_46 (by decide) rfl (fun _ => ?_) (fun hc => absurd (nI_le (by omega) (by omega)) hc)
    first | refine aw_aload_n (i := 0) (q := 126) dX2_passDay_125 rfl rfl rfl ?_ | refine aw_aloadN_n (i := 0) (q := 126) dX2_passDay_125 rfl rfl rfl ?_ | refine aw_aloadQ_n (i := 0) (q := 126) dX2_passDay_125 rfl rfl rfl ?_
    refine aw_getfield (q := 129) dX2_passDay_126 gf_X2_7_2 (by assumption) rfl rfl ?_
    refine aw_bipush (v := 6) (q := 131) dX2_passDay_129 rfl rfl ?_
    refine aw_dup2 (q := 132) dX2_passDay_131 (by first | rfl | exact zcat_rf _) (by first | rfl | exact zcat_rf _) rfl ?_
    refine aw_iald (q := 133) (v := Q 0 0 6) (6) dX2_passDay_132 (by assumption) (by first | assumption | (simp only [← nI_add, ← pk_mul]; rfl) | rfl) (by omega) (by omega) ((hT.2.1.g (by omega)).trans (tPromN_o (by omega))) rfl ?_
    refine aw_iconst (v := 1) (q := 134) dX2_passDay_133 rfl rfl ?_
    refine aw_iadd (q := 135) dX2_passDay_134 rfl ?_
    refine aw_iast (q := 136) (6) dX2_passDay_135 h1 (by first | assumption | simp) (by first | assumption | (simp only [← nI_add, ← pk_mul]; rfl) | rfl) (by omega) (by omega) rfl (fun μ2 hg_μ2 => ?_)
    have h1 : μ2 _ = some _ := hg_μ2 ▸ updM_eq _ _ _
    obtain ⟨hT2, hk2⟩ := hT.st (s := 0) (i := 0) (c := 6) (by omega) (show 0 < 1 by omega) (show 6 < 20 by omega) rfl hg_μ2 (hT.2.2.upd (by omega))
    rw [setK_twice] at hT2
    exact aw_return dX2_passDay_136 rfl (⟨rfl, ⟨_, by rw [tDay, show pcn Q 12 = e by omega]; exact hT2⟩, hk.tr hk2⟩)
  | succ n ih =>
    intro e he μ1 f hT hk
    have hm := hT.m
    have h1 := hT.a1
    have hlt : e < pcn Q 12 := by omega
    have go : tPromN Q (e + 1) = tPromN Q e → AW G 6 MX2_passDay (tPost8 G μ m lam K (tDay Q) D none) 0 0 38 [(0, .ref m), (1, .int (nI (e + 1)))] [] μ1 := fun h => ih (e + 1) (by omega) μ1 f (h ▸ hT) hk
    refine aw_iload_n (i := 1) (q := 39) dX2_passDay_38 rfl rfl rfl ?_
    first | refine aw_aload_n (i := 0) (q := 40) dX2_passDay_39 rfl rfl rfl ?_ | refine aw_aloadN_n (i := 0) (q := 40) dX2_passDay_39 rfl rfl rfl ?_ | refine aw_aloadQ_n (i := 0) (q := 40) dX2_passDay_39 rfl rfl rfl ?_
    refine aw_getfield (q := 43) dX2_passDay_40 gf_X2_7_2 (by assumption) rfl rfl ?_
    refine aw_bipush (v := 12) (q := 45) dX2_passDay_43 rfl rfl ?_
    refine aw_iald (q := 46) (v := nI (pcn Q 12)) (12) dX2_passDay_45 (by assumption) (by first | assumption | (simp only [← nI_add, ← pk_mul]; rfl) | rfl) (by omega) (by omega) ((hT.2.1.g (by omega)).trans ((tPromN_o (by omega)).trans hn)) rfl ?_
    refine aw_icmp_ge (tgt := 125) (q := 49) dX2_passDay_46 (by decide) rfl (fun hc => absurd hc (nI_ge hlt (by omega))) (fun _ => ?_)
    refine aw_sipush (v := 1860) (q := 52) dX2_passDay_49 rfl rfl ?_
    refine aw_bipush (v := 10) (q := 54) dX2_passDay_52 rfl rfl ?_
    refine aw_iload_n (i := 1) (q := 55) dX2_passDay_54 rfl rfl rfl ?_
    refine aw_imul (q := 56) dX2_passDay_55 rfl ?_
    refine aw_iadd (q := 57) dX2_passDay_56 rfl ?_
    refine aw_istore_n (i := 2) (q := 58) dX2_passDay_57 rfl (by decide) rfl ?_
    first | refine aw_aload_n (i := 0) (q := 59) dX2_passDay_58 rfl rfl rfl ?_ | refine aw_aloadN_n (i := 0) (q := 59) dX2_passDay_58 rfl rfl rfl ?_ | refine aw_aloadQ_n (i := 0) (q := 59) dX2_passDay_58 rfl rfl rfl ?_
    refine aw_getfield (q := 62) dX2_passDay_59 gf_X2_7_2 (by assumption) rfl rfl ?_
    refine aw_iload_n (i := 2) (q := 63) dX2_passDay_62 rfl rfl rfl ?_
    refine aw_iconst (v := 4) (q := 64) dX2_passDay_63 rfl rfl ?_
    refine aw_iadd (q := 65) dX2_passDay_64 rfl ?_
    refine aw_iald (q := 66) (v := Q 6 e 4) (1860 + 10 * e + 4) dX2_passDay_65 (by assumption) (by first | assumption | (simp only [← nI_add, ← pk_mul]; rfl) | rfl) (by omega) (by omega) ((hT.2.1.pr (by omega) (by omega)).trans (tPromN_o (by omega))) rfl ?_
    refine aw_if_ne (tgt := 119) (q := 69) dX2_passDay_66 (by decide) rfl (fun ha => ?_) (fun ha => ?_)
    · refine aw_iinc (q := 122) dX2_passDay_119 rfl (by first | exact nI_1 _ | rfl) (by decide) rfl ?_
      refine aw_goto (tgt := 38) dX2_passDay_122 (by decide) ?_
      exact aw_locals (by exact ⟨rfl, rfl, trivial⟩) (go (tPromN_s (fun h => ha h.1)))
    · first | refine aw_aload_n (i := 0) (q := 70) dX2_passDay_69 rfl rfl rfl ?_ | refine aw_aloadN_n (i := 0) (q := 70) dX2_passDay_69 rfl rfl rfl ?_ | refine aw_aloadQ_n (i := 0) (q := 70) dX2_passDay_69 rfl rfl rfl ?_
      refine aw_getfield (q := 73) dX2_passDay_70 gf_X2_7_2 (by assumption) rfl rfl ?_
      refine aw_iload_n (i := 2) (q := 74) dX2_passDay_73 rfl rfl rfl ?_
      refine aw_iconst (v := 3) (q := 75) dX2_passDay_74 rfl rfl ?_
      refine aw_iadd (q := 76) dX2_passDay_75 rfl ?_
      refine aw_iald (q := 77) (v := Q 6 e 3) (1860 + 10 * e + 3) dX2_passDay_76 (by assumption) (by first | assumption | (simp only [← nI_add, ← pk_mul]; rfl) | rfl) (by omega) (by omega) ((hT.2.1.pr (by omega) (by omega)).trans (tPromN_o (by omega))) rfl ?_
      first | refine aw_aload_n (i := 0) (q := 78) dX2_passDay_77 rfl rfl rfl ?_ | refine aw_aloadN_n (i := 0) (q := 78) dX2_passDay_77 rfl rfl rfl ?_ | refine aw_aloadQ_n (i := 0) (q := 78) dX2_passDay_77 rfl rfl rfl ?_
      refine aw_getfield (q := 81) dX2_passDay_78 gf_X2_7_2 (by assumption) rfl rfl ?_
      refine aw_bipush (v := 6) (q := 83) dX2_passDay_81 rfl rfl ?_
      refine aw_iald (q := 84) (v := Q 0 0 6) (6) dX2_passDay_83 (by assumption) (by first | assumption | (simp only [← nI_add, ← pk_mul]; rfl) | rfl) (by omega) (by omega) ((hT.2.1.g (by omega)).trans (tPromN_o (by omega))) rfl ?_
      refine aw_icmp_ne (tgt := 119) (q := 87) dX2_passDay_84 (by decide) rfl (fun hb => ?_) (fun hb => ?_)
      · refine aw_iinc (q := 122) dX2_passDay_119 rfl (by first | exact nI_1 _ | rfl) (by decide) rfl ?_
        refine aw_goto (tgt := 38) dX2_passDay_122 (by decide) ?_
        exact aw_locals (by exact ⟨rfl, rfl, trivial⟩) (go (tPromN_s (fun h => hb h.2)))
      · first | refine aw_aload_n (i := 0) (q := 88) dX2_passDay_87 rfl rfl rfl ?_ | refine aw_aloadN_n (i := 0) (q := 88) dX2_passDay_87 rfl rfl rfl ?_ | refine aw_aloadQ_n (i := 0) (q := 88) dX2_passDay_87 rfl rfl rfl ?_
        refine aw_getfield (q := 91) dX2_passDay_88 gf_X2_7_2 (by assumption) rfl rfl ?_
        refine aw_iload_n (i := 2) (q := 92) dX2_passDay_91 rfl rfl rfl ?_
        refine aw_iconst (v := 4) (q := 93) dX2_passDay_92 rfl rfl ?_
        refine aw_iadd (q := 94) dX2_passDay_93 rfl ?_
        first | refine aw_aload_n (i := 0) (q := 95) dX2_passDay_94 rfl rfl rfl ?_ | refine aw_aloadN_n (i := 0) (q := 95) dX2_passDay_94 rfl rfl rfl ?_ | refine aw_aloadQ_n (i := 0) (q := 95) dX2_passDay_94 rfl rfl rfl ?_
        refine aw_getfield (q := 98) dX2_passDay_95 gf_X2_7_2 (by assumption) rfl rfl ?_
        refine aw_iload_n (i := 2) (q := 99) dX2_passDay_98 rfl rfl rfl ?_
        refine aw_iconst (v := 5) (q := 100) dX2_passDay_99 rfl rfl ?_
        refine aw_iadd (q := 101) dX2_passDay_100 rfl ?_
        have put : ∀ v : Int32, v = (if Q 6 e 2 ≤ Q 6 e 5 then 1 else 2) → AW G 6 MX2_passDay (tPost8 G μ m lam K (tDay Q) D none) 0 0 118 [(0, .ref m), (1, .int (nI e))] [.int v, .int (1860 + 10 * nI e + 4), .ref (lam 1)] μ1 := by
          intro v hv
          subst hv
          refine aw_iast (q := 119) (1860 + 10 * e + 4) dX2_passDay_118 h1 (by first | assumption | simp) (by first | assumption | (simp only [← nI_add, ← pk_mul]; rfl) | rfl) (by omega) (by omega) rfl (fun μ2 hg_μ2 => ?_)
          have h1 : μ2 _ = some _ := hg_μ2 ▸ updM_eq _ _ _
          obtain ⟨hT2, hk2⟩ := hT.st (s := 6) (i := e) (c := 4) (by omega) (show e < 12 by omega) (show 4 < 10 by omega) rfl hg_μ2 (hT.2.2.upd (by omega))
          rw [setK_twice, tPromN_t ⟨ha, hb⟩] at hT2
          refine aw_iinc (q := 122) dX2_passDay_119 rfl (by first | exact nI_1 _ | rfl) (by decide) rfl ?_
          refine aw_goto (tgt := 38) dX2_passDay_122 (by decide) ?_
          exact aw_locals (by exact ⟨rfl, rfl, trivial⟩) (ih (e + 1) (by omega) μ2 _ hT2 (hk.tr hk2))
        refine aw_iald (q := 102) (v := Q 6 e 5) (1860 + 10 * e + 5) dX2_passDay_101 (by assumption) (by first | assumption | (simp only [← nI_add, ← pk_mul]; rfl) | rfl) (by omega) (by omega) ((hT.2.1.pr (by omega) (by omega)).trans (tPromN_o (by omega))) rfl ?_
        first | refine aw_aload_n (i := 0) (q := 103) dX2_passDay_102 rfl rfl rfl ?_ | refine aw_aloadN_n (i := 0) (q := 103) dX2_passDay_102 rfl rfl rfl ?_ | refine aw_aloadQ_n (i := 0) (q := 103) dX2_passDay_102 rfl rfl rfl ?_
        refine aw_getfield (q := 106) dX2_passDay_103 gf_X2_7_2 (by assumption) rfl rfl ?_
        refine aw_iload_n (i := 2) (q := 107) dX2_passDay_106 rfl rfl rfl ?_
        refine aw_iconst (v := 2) (q := 108) dX2_passDay_107 rfl rfl ?_
        refine aw_iadd (q := 109) dX2_passDay_108 rfl ?_
        refine aw_iald (q := 110) (v := Q 6 e 2) (1860 + 10 * e + 2) dX2_passDay_109 (by assumption) (by first | assumption | (simp only [← nI_add, ← pk_mul]; rfl) | rfl) (by omega) (by omega) ((hT.2.1.pr (by omega) (by omega)).trans (tPromN_o (by omega))) rfl ?_
        refine aw_icmp_lt (tgt := 117) (q := 113) dX2_passDay_110 (by decide) rfl (fun hc => ?_) (fun hc => ?_)
        · refine aw_iconst (v := 2) (q := 118) dX2_passDay_117 rfl rfl ?_
          exact aw_locals (by exact ⟨rfl, rfl, trivial⟩) (put 2 (by rw [if_neg (Int32.not_le.mpr hc)]))
        · refine aw_iconst (v := 1) (q := 114) dX2_passDay_113 rfl rfl ?_
          refine aw_goto (tgt := 118) dX2_passDay_114 (by decide) ?_
          exact aw_locals (by exact ⟨rfl, rfl, trivial⟩) (put 1 (by rw [if_pos (Int32.not_lt.mp hc)]))
theorem C2_passDay (hT : zTP G μ m lam K P) (hD : tDI P) : Meets G 6 MX2_passDay [.ref m] μ (tPost8 G μ m lam K (tPass P (K 8)).1 (tPass P (K 8)).2 none) 0 0 := by
  have hm := hT.m
  have hI : ∀ n, tDI (tSlotN P (K 8) n).1 := fun n => hD.congr (fun s i c h => tSlotN_o h n)
  have h06 : ∀ n, (tSlotN P (K 8) n).1 0 0 6 = P 0 0 6 := fun n => tSlotN_o (by unfold tOc; omega) n
  refine meets_of (by decide +kernel) (Nat.le_of_ble_eq_true rfl) ?_
  refine aw_iconst (v := 0) (q := 1) dX2_passDay_0 rfl rfl ?_
  refine aw_istore_n (i := 1) (q := 2) dX2_passDay_1 rfl (by decide) rfl ?_
  have loop1 : ∀ n e, e + n = 6 → ∀ (μ1 : zM) (f : Nat → Int32), zTP G μ1 m lam (setK (setK K 8 (tSlotN P (K 8) e).2) 1 f) (tSlotN P (K 8) e).1 → zKp tTw μ μ1 → AW G 6 MX2_passDay (tPost8 G μ m lam K (tPass P (K 8)).1 (tPass P (K 8)).2 none) 0 0 2 [(0, .ref m), (1, .int (nI e))] [] μ1 := by
    intro n
    induction n with
    | zero =>
      intro e he μ1 f hT hk
      have e6 : e = 6 := by omega
      subst e6
      refine aw_iload_n (i := 1) (q := 3) dX2_passDay_2 rfl rfl rfl ?_
      refine aw_bipush (v := 6) (q := 5) dX2_passDay_3 rfl rfl ?_
      refine aw_icmp_ge (tgt := 36) (q := 8) dX2_passDay_5 (by decide) rfl (fun _ => ?_) (fun hc => absurd (nI_le (a := 6) (by omega) (by omega)) hc)
      refine aw_iconst (v := 0) (q := 37) dX2_passDay_36 rfl rfl ?_
      refine aw_istore_n (i := 1) (q := 38) dX2_passDay_37 rfl (by decide) rfl ?_
      rw [tPass]
      have i6 := (hI 6).1
      generalize tSlotN P (K 8) 6 = q at hT i6 ⊢
      exact aw_locals (by exact ⟨rfl, rfl, trivial⟩) (pass_loop2 i6 (pcn q.1 12) 0 (by omega) μ1 f (by rw [show tPromN q.1 0 = q.1 by funext s i c; exact tPromN_o (by omega)]; exact hT) hk)
    | succ n ih =>
      intro e he μ1 f hT hk
      have hm := hT.m
      have h1 := hT.a1
      refine aw_iload_n (i := 1) (q := 3) dX2_passDay_2 rfl rfl rfl ?_
      refine aw_bipush (v := 6) (q := 5) dX2_passDay_3 rfl rfl ?_
      refine aw_icmp_ge (tgt := 36) (q := 8) dX2_passDay_5 (by decide) rfl (fun hc => absurd hc (nI_ge (b := 6) (a := e) (by omega) (by omega))) (fun _ => ?_)
      first | refine aw_aload_n (i := 0) (q := 9) dX2_passDay_8 rfl rfl rfl ?_ | refine aw_aloadN_n (i := 0) (q := 9) dX2_passDay_8 rfl rfl rfl ?_ | refine aw_aloadQ_n (i := 0) (q := 9) dX2_passDay_8 rfl rfl rfl ?_
      first | refine aw_aload_n (i := 0) (q := 10) dX2_passDay_9 rfl rfl rfl ?_ | refine aw_aloadN_n (i := 0) (q := 10) dX2_passDay_9 rfl rfl rfl ?_ | refine aw_aloadQ_n (i := 0) (q := 10) dX2_passDay_9 rfl rfl rfl ?_
      refine aw_getfield (q := 13) dX2_passDay_10 gf_X2_7_2 (by assumption) rfl rfl ?_
      refine aw_bipush (v := 6) (q := 15) dX2_passDay_13 rfl rfl ?_
      refine aw_iald (q := 16) (v := P 0 0 6) (6) dX2_passDay_15 (by assumption) (by first | assumption | (simp only [← nI_add, ← pk_mul]; rfl) | rfl) (by omega) (by omega) ((hT.2.1.g (by omega)).trans (h06 e)) rfl ?_
      refine aw_iload_n (i := 1) (q := 17) dX2_passDay_16 rfl rfl rfl ?_
      refine aw_callV (q := 20) dX2_passDay_17 (C2_plannedAt hT) cv_X2_81_2 (by assumption) rfl rfl (by decide) (by decide) (by first | exact Nat.le_of_ble_eq_true rfl | simp [zcat_rf, Value.category]) rfl (zpk ?_)
      refine aw_istore_n (i := 2) (q := 21) dX2_passDay_20 rfl (by decide) rfl ?_
      refine aw_iload_n (i := 2) (q := 22) dX2_passDay_21 rfl rfl rfl ?_
      refine aw_if_lt (tgt := 30) (q := 25) dX2_passDay_22 (by decide) rfl (fun ha => ?_) (fun ha => ?_)
      · refine aw_iinc (q := 33) dX2_passDay_30 rfl (by first | exact nI_1 _ | rfl) (by decide) rfl ?_
        refine aw_goto (tgt := 2) dX2_passDay_33 (by decide) ?_
        have e3 : tSlotN P (K 8) (e + 1) = tSlotN P (K 8) e := by
          show (if _ then _ else _) = _
          rw [if_pos ha]
        exact aw_locals (by exact ⟨rfl, rfl, trivial⟩) (ih (e + 1) (by omega) μ1 f (by rw [e3]; exact hT) hk)
      · skip
        obtain ⟨s, h1', h2, h3, h4, h5⟩ := tPlannedAt_lt ha
        have i1 := hI e
        have hs9 := i1.1.s.2
        rw [h2]
        first | refine aw_aload_n (i := 0) (q := 26) dX2_passDay_25 rfl rfl rfl ?_ | refine aw_aloadN_n (i := 0) (q := 26) dX2_passDay_25 rfl rfl rfl ?_ | refine aw_aloadQ_n (i := 0) (q := 26) dX2_passDay_25 rfl rfl rfl ?_
        refine aw_iload_n (i := 2) (q := 27) dX2_passDay_26 rfl rfl rfl ?_
        refine aw_callV (q := 30) dX2_passDay_27 (C2_hold hT rfl h1' i1.2.1 i1.2.2.1 i1.2.2.2) cv_X2_149_2 (by assumption) rfl rfl (by decide) (by decide) (by first | exact Nat.le_of_ble_eq_true rfl | simp [zcat_rf, Value.category]) rfl (fun v27 μ2 hp => ?_)
        obtain ⟨rfl, ⟨n2, hT2⟩, hk2⟩ := hp
        rw [setK_ne (by decide), setK_eq, setK_comm _ _ _ (by decide : (1 : Nat) ≠ 8), setK_twice, setK_twice] at hT2
        refine aw_iinc (q := 33) dX2_passDay_30 rfl (by first | exact nI_1 _ | rfl) (by decide) rfl ?_
        refine aw_goto (tgt := 2) dX2_passDay_33 (by decide) ?_
        have e3 : tSlotN P (K 8) (e + 1) = tHold (tSlotN P (K 8) e).1 (tSlotN P (K 8) e).2 s := by
          show (if _ then _ else _) = _
          rw [if_neg ha, h2, nI_clamp (by omega)]
        exact aw_locals (by exact ⟨rfl, rfl, trivial⟩) (ih (e + 1) (by omega) μ2 n2 (by rw [e3]; exact hT2) (hk.tr hk2))
  exact aw_locals (by exact ⟨rfl, rfl, trivial⟩) (loop1 6 0 (by omega) μ (setK K 8 (K 8) 1) (by show zTP G μ m lam (setK (setK K 8 (K 8)) 1 _) P; rw [setK_self, setK_self]; exact hT) zKp.rf)
end ZTW11
