/-! THE TWIN, part 11: hold, passDay -/
set_option maxRecDepth 100000
theorem tPutIn_o {P : zP} {l s i c : Nat} (h : s ≠ 2 ∨ c ≠ 2) : tPutIn P l s i c = P s i c := by
  unfold tPutIn
  rw [updP_ne (by omega)]
  split
  · rfl
  · rw [updP_ne (by omega)]
theorem tLight_o {P : zP} {least : Int32} {s i c : Nat} (h : s ≠ 2 ∨ c ≠ 2) : tLight P least s i c = P s i c := by
  unfold tLight
  split
  · rfl
  · split
    · rfl
    · cases tBest P least with
      | none => rfl
      | some j => exact tPutIn_o h
theorem tLight_cn {P : zP} {least : Int32} {c : Nat} : pcn (tLight P least) c = pcn P c := by
  unfold pcn; rw [tLight_o (by omega)]
theorem tLight_no {P : zP} {least : Int32} (h : tHasD P least = false) : tLight P least = P := by
  unfold tHasD at h
  rw [Bool.or_eq_false_iff] at h
  unfold tLight
  rw [if_neg (by rw [h.1]; decide)]
  split
  · rfl
  · rename_i h5
    have : (tBest P least).isSome = false := by simpa [h5] using h.2
    cases hb : tBest P least with
    | none => rfl
    | some j => rw [hb] at this; cases this
theorem tFitted_pos {P : zP} {l : Nat} (h : P 2 l 2 = 1) : ∀ n, l < n → n < 2 ^ 30 → ∃ j, j < n ∧ tFitted P n = nI j ∧ P 2 j 2 = 1
  | 0, h0, _ => by omega
  | n + 1, h0, hb => by
    unfold tFitted
    by_cases g : P 2 n 2 = 1
    · rw [if_pos g]; exact ⟨n, by omega, rfl, g⟩
    · rw [if_neg g]
      have hne : l ≠ n := fun e => g (e ▸ h)
      obtain ⟨j, h1, h2, h3⟩ := tFitted_pos h n (by omega) (by omega)
      exact ⟨j, by omega, h2, h3⟩
/-- with light there's a lamp -/
theorem tLight_lamp {P : zP} {least : Int32} (hok : tOk P) (h : tHasD P least = true) : ∃ l, l < pcn P 8 ∧ tFit (tLight P least) = nI l ∧ tLight P least 2 l 2 = 1 := by
  have hN := hok.l.2
  by_cases hl : tLitD P least = true
  · have e : tLight P least = P := by unfold tLight; rw [if_pos hl]
    rw [e]
    have h0 : 0 ≤ tFit P := (of_decide_eq_true hl).1
    rcases tFitted_lt (P := P) (pcn P 8) with q | ⟨l, h1, h2, h3⟩
    · rw [tFit, q] at h0; exact absurd h0 (by decide)
    · exact ⟨l, h1, h2, h3⟩
  · have h' : (decide (P 0 0 5 ≠ 0) && (tBest P least).isSome) = true := by
      unfold tHasD at h; simpa [hl] using h
    rw [Bool.and_eq_true] at h'
    have h5 : P 0 0 5 ≠ 0 := of_decide_eq_true h'.1
    cases hb : tBest P least with
    | none => rw [hb] at h'; exact absurd h'.2 (by decide)
    | some j =>
      have e : tLight P least = tPutIn P j := by unfold tLight; rw [if_neg hl, if_neg h5, hb]
      have hj := (tBestN_lt _ _ hb).1
      rw [e]
      obtain ⟨l, h1, h2, h3⟩ := tFitted_pos (P := tPutIn P j) (l := j) (by unfold tPutIn; exact updP_eq _ _ _ _ _) (pcn P 8) hj (by omega)
      refine ⟨l, h1, ?_, h3⟩
      rw [tFit, show pcn (tPutIn P j) 8 = pcn P 8 by unfold pcn; rw [tPutIn_o (by omega)]]
      exact h2
def tBreaks (Q : zP) (k l : Nat) : Bool := decide (Q 2 l 0 - Q 2 l 1 < Q 1 k 0)
def tHours (Q : zP) (k l : Nat) : Int32 := if tBreaks Q k l = true then Q 2 l 0 - Q 2 l 1 else Q 1 k 0
def tWorn (Q : zP) (s k l : Nat) : zP := updP (updP (updP (updP (updP Q 2 l 1 (Q 2 l 1 + tHours Q k l)) 2 l 3 (Q 2 l 3 + 1)) 3 s 3 (if tBreaks Q k l = true then 2 else 1)) 3 s 4 (nI l)) 3 s 5 (tHours Q k l)
def tHeld (Q : zP) (D : Nat → Int32) (s k l : Nat) : zP × (Nat → Int32) := tClose (tWorn Q s k l) D s (if tBreaks Q k l = true then 2 else 1)
def tHoldLit (Q : zP) (D : Nat → Int32) (s k l : Nat) : zP × (Nat → Int32) := (updP (tHeld Q D s k l).1 2 l 2 (if (tHeld Q D s k l).1 2 l 1 = (tHeld Q D s k l).1 2 l 0 then 2 else (tHeld Q D s k l).1 2 l 2), (tHeld Q D s k l).2)
def tKd (P : zP) (s : Nat) : Nat := (P 3 s 0).toNatClampNeg
def tHold (P : zP) (D : Nat → Int32) (s : Nat) : zP × (Nat → Int32) :=
  if tHasD P (P 1 (tKd P s) 1) = true then tHoldLit (tLight P (P 1 (tKd P s) 1)) D s (tKd P s) (tFit (tLight P (P 1 (tKd P s) 1))).toNatClampNeg
  else tClose (updP P 3 s 3 3) D s 4
/-- every show is of a kind -/
def tKi (P : zP) : Prop := ∀ s, s < pcn P 9 → P 3 s 0 = nI (tKd P s) ∧ tKd P s < pcn P 7
section ZTW10
variable {G : zG} {μ : zM} {m : Nat} {lam : Nat → Nat} {K : Nat → Nat → Int32} {P : zP}
theorem tBkOk.upd {P : zP} (h : tBkOk P) {s i c : Nat} {v : Int32} (hs : s = 2 ∨ (s = 3 ∧ True)) : tBkOk (updP P s i c v) := by
  intro b hb
  rw [pcn_upd (by omega)] at hb
  unfold tSh
  rw [updP_ne (by omega), pcn_upd (by omega)]
  exact h b hb
theorem tBkOk.congr {P Q : zP} (h : tBkOk P) (e : ∀ b, Q 4 b 0 = P 4 b 0) (e1 : pcn Q 9 = pcn P 9) (e2 : pcn Q 10 = pcn P 10) : tBkOk Q := by
  intro b hb
  unfold tSh
  rw [e, e1]
  rw [e2] at hb
  exact h b hb
theorem C2_hold {s : Nat} {x : Int32} (hT : zTP G μ m lam K P) (hx : x = nI s) (hs : s < pcn P 9) (hB : tBkOk P) (hL : tLife P) (hK : tKi P) : Meets G 5 MX2_hold [.ref m, .int x] μ (tPost8 G μ m lam K (tHold P (K 8) s).1 (tHold P (K 8) s).2 none) 0 0 := by
  subst hx
  have hsN := hT.2.2.s.2
  obtain ⟨ek, hk⟩ := hK s hs
  have hkN := hT.2.2.k.2
  obtain ⟨k, e0⟩ : ∃ k, k = tKd P s := ⟨_, rfl⟩
  rw [← e0] at ek hk
  have hm := hT.m
  have h1 := hT.a1
  refine meets_of (by decide +kernel) (Nat.le_of_ble_eq_true rfl) ?_
  refine aw_bipush (v := 100) (q := 2) dX2_hold_0 rfl rfl ?_
  refine aw_bipush (v := 7) (q := 4) dX2_hold_2 rfl rfl ?_
  refine aw_iload_n (i := 1) (q := 5) dX2_hold_4 rfl rfl rfl ?_
  refine aw_imul (q := 6) dX2_hold_5 rfl ?_
  refine aw_iadd (q := 7) dX2_hold_6 rfl ?_
  refine aw_istore_n (i := 2) (q := 8) dX2_hold_7 rfl (by decide) rfl ?_
  refine aw_bipush (v := 20) (q := 10) dX2_hold_8 rfl rfl ?_
  refine aw_iconst (v := 3) (q := 11) dX2_hold_10 rfl rfl ?_
  first | refine aw_aload_n (i := 0) (q := 12) dX2_hold_11 rfl rfl rfl ?_ | refine aw_aloadN_n (i := 0) (q := 12) dX2_hold_11 rfl rfl rfl ?_ | refine aw_aloadQ_n (i := 0) (q := 12) dX2_hold_11 rfl rfl rfl ?_
  refine aw_getfield (q := 15) dX2_hold_12 gf_X2_7_2 (by assumption) rfl rfl ?_
  refine aw_iload_n (i := 2) (q := 16) dX2_hold_15 rfl rfl rfl ?_
  refine aw_iald (q := 17) (v := nI k) (100 + 7 * s) dX2_hold_16 (by assumption) (by first | assumption | (simp only [← nI_add, ← pk_mul]; rfl) | rfl) (by omega) (by omega) ((hT.2.1.sh (c := 0) (by omega) (by omega)).trans ek) rfl ?_
  refine aw_imul (q := 18) dX2_hold_17 rfl ?_
  refine aw_iadd (q := 19) dX2_hold_18 rfl ?_
  refine aw_istore_n (i := 3) (q := 20) dX2_hold_19 rfl (by decide) rfl ?_
  first | refine aw_aload_n (i := 0) (q := 21) dX2_hold_20 rfl rfl rfl ?_ | refine aw_aloadN_n (i := 0) (q := 21) dX2_hold_20 rfl rfl rfl ?_ | refine aw_aloadQ_n (i := 0) (q := 21) dX2_hold_20 rfl rfl rfl ?_
  first | refine aw_aload_n (i := 0) (q := 22) dX2_hold_21 rfl rfl rfl ?_ | refine aw_aloadN_n (i := 0) (q := 22) dX2_hold_21 rfl rfl rfl ?_ | refine aw_aloadQ_n (i := 0) (q := 22) dX2_hold_21 rfl rfl rfl ?_
  refine aw_getfield (q := 25) dX2_hold_22 gf_X2_7_2 (by assumption) rfl rfl ?_
  refine aw_iload_n (i := 3) (q := 26) dX2_hold_25 rfl rfl rfl ?_
  refine aw_iconst (v := 1) (q := 27) dX2_hold_26 rfl rfl ?_
  refine aw_iadd (q := 28) dX2_hold_27 rfl ?_
  refine aw_iald (q := 29) (v := P 1 k 1) (20 + 3 * k + 1) dX2_hold_28 (by assumption) (by first | assumption | (simp only [← nI_add, ← pk_mul]; rfl) | rfl) (by omega) (by omega) (hT.2.1.ki (by omega) (by omega)) rfl ?_
  refine aw_callV (q := 32) dX2_hold_29 (C2_hasLight hT hL) cv_X2_143_2 (by assumption) rfl rfl (by decide) (by decide) (by first | exact Nat.le_of_ble_eq_true rfl | simp [zcat_rf, Value.category]) rfl (fun v29 μ1 hp => ?_)
  obtain ⟨rfl, ⟨n1, hT1⟩, hk1⟩ := hp
  have hm := hT1.m
  have h1 := hT1.a1
  refine aw_if_ne (tgt := 51) (q := 35) dX2_hold_32 (by decide) rfl (fun hg => ?_) (fun hg => ?_)
  · first | refine aw_aload_n (i := 0) (q := 52) dX2_hold_51 rfl rfl rfl ?_ | refine aw_aloadN_n (i := 0) (q := 52) dX2_hold_51 rfl rfl rfl ?_ | refine aw_aloadQ_n (i := 0) (q := 52) dX2_hold_51 rfl rfl rfl ?_
    have hg := zB_1 hg
    have eH : tHold P (K 8) s = tHoldLit (tLight P (P 1 k 1)) (K 8) s k (tFit (tLight P (P 1 k 1))).toNatClampNeg := by rw [tHold, ← e0, if_pos hg]
    obtain ⟨l, hl, el, -⟩ := tLight_lamp hT.2.2 hg
    have hlN := hT.2.2.l.2
    have cl : (nI l).toNatClampNeg = l := nI_clamp (by omega)
    rw [el, cl] at eH
    rw [eH]
    obtain ⟨Q, eQ⟩ : ∃ Q, Q = tLight P (P 1 k 1) := ⟨_, rfl⟩
    have hQo : ∀ s i c, s ≠ 2 ∨ c ≠ 2 → Q s i c = P s i c := fun s i c h => by rw [eQ]; exact tLight_o h
    have hQc : ∀ c, pcn Q c = pcn P c := fun c => by rw [eQ]; exact tLight_cn
    rw [← eQ] at hT1 el ⊢
    refine aw_callV (q := 55) dX2_hold_52 (C2_fitted hT1) cv_X2_64_2 (by assumption) rfl rfl (by decide) (by decide) (by first | exact Nat.le_of_ble_eq_true rfl | simp [zcat_rf, Value.category]) rfl (zpk ?_)
    rw [el]
    refine aw_istore (q := 57) dX2_hold_55 (by decide) rfl ?_
    refine aw_bipush (v := 50) (q := 59) dX2_hold_57 rfl rfl ?_
    refine aw_iconst (v := 4) (q := 60) dX2_hold_59 rfl rfl ?_
    refine aw_iload (q := 62) dX2_hold_60 rfl rfl ?_
    refine aw_imul (q := 63) dX2_hold_62 rfl ?_
    refine aw_iadd (q := 64) dX2_hold_63 rfl ?_
    refine aw_istore (q := 66) dX2_hold_64 (by decide) rfl ?_
    first | refine aw_aload_n (i := 0) (q := 67) dX2_hold_66 rfl rfl rfl ?_ | refine aw_aloadN_n (i := 0) (q := 67) dX2_hold_66 rfl rfl rfl ?_ | refine aw_aloadQ_n (i := 0) (q := 67) dX2_hold_66 rfl rfl rfl ?_
    refine aw_getfield (q := 70) dX2_hold_67 gf_X2_7_2 (by assumption) rfl rfl ?_
    refine aw_iload (q := 72) dX2_hold_70 rfl rfl ?_
    refine aw_iald (q := 73) (v := Q 2 l 0) (50 + 4 * l) dX2_hold_72 (by assumption) (by first | assumption | (simp only [← nI_add, ← pk_mul]; rfl) | rfl) (by omega) (by omega) (hT1.2.1.la (c := 0) (by omega) (by omega)) rfl ?_
    first | refine aw_aload_n (i := 0) (q := 74) dX2_hold_73 rfl rfl rfl ?_ | refine aw_aloadN_n (i := 0) (q := 74) dX2_hold_73 rfl rfl rfl ?_ | refine aw_aloadQ_n (i := 0) (q := 74) dX2_hold_73 rfl rfl rfl ?_
    refine aw_getfield (q := 77) dX2_hold_74 gf_X2_7_2 (by assumption) rfl rfl ?_
    refine aw_iload (q := 79) dX2_hold_77 rfl rfl ?_
    refine aw_iconst (v := 1) (q := 80) dX2_hold_79 rfl rfl ?_
    refine aw_iadd (q := 81) dX2_hold_80 rfl ?_
    refine aw_iald (q := 82) (v := Q 2 l 1) (50 + 4 * l + 1) dX2_hold_81 (by assumption) (by first | assumption | (simp only [← nI_add, ← pk_mul]; rfl) | rfl) (by omega) (by omega) (hT1.2.1.la (by omega) (by omega)) rfl ?_
    refine aw_isub (q := 83) dX2_hold_82 rfl ?_
    refine aw_istore (q := 85) dX2_hold_83 (by decide) rfl ?_
    first | refine aw_aload_n (i := 0) (q := 86) dX2_hold_85 rfl rfl rfl ?_ | refine aw_aloadN_n (i := 0) (q := 86) dX2_hold_85 rfl rfl rfl ?_ | refine aw_aloadQ_n (i := 0) (q := 86) dX2_hold_85 rfl rfl rfl ?_
    refine aw_getfield (q := 89) dX2_hold_86 gf_X2_7_2 (by assumption) rfl rfl ?_
    refine aw_iload_n (i := 3) (q := 90) dX2_hold_89 rfl rfl rfl ?_
    refine aw_iald (q := 91) (v := Q 1 k 0) (20 + 3 * k) dX2_hold_90 (by assumption) (by first | assumption | (simp only [← nI_add, ← pk_mul]; rfl) | rfl) (by omega) (by omega) (hT1.2.1.ki (c := 0) (by omega) (by omega)) rfl ?_
    refine aw_iload (q := 93) dX2_hold_91 rfl rfl ?_
    have rest : ∀ (L : List (Nat × Value)), zLs L [(0, .ref m), (1, .int (nI s)), (2, .int (100 + 7 * nI s)), (4, .int (nI l)), (5, .int (50 + 4 * nI l)), (7, .int (zB (tBreaks Q k l = true))), (8, .int (tHours Q k l))] → AW G 5 MX2_hold (tPost8 G μ m lam K (tHoldLit Q (K 8) s k l).1 (tHoldLit Q (K 8) s k l).2 none) 0 0 121 L [] μ1 := by
      intro L hL
      refine aw_locals hL ?_
      first | refine aw_aload_n (i := 0) (q := 122) dX2_hold_121 rfl rfl rfl ?_ | refine aw_aloadN_n (i := 0) (q := 122) dX2_hold_121 rfl rfl rfl ?_ | refine aw_aloadQ_n (i := 0) (q := 122) dX2_hold_121 rfl rfl rfl ?_
      refine aw_getfield (q := 125) dX2_hold_122 gf_X2_7_2 (by assumption) rfl rfl ?_
      refine aw_iload (q := 127) dX2_hold_125 rfl rfl ?_
      refine aw_iconst (v := 1) (q := 128) dX2_hold_127 rfl rfl ?_
      refine aw_iadd (q := 129) dX2_hold_128 rfl ?_
      refine aw_dup2 (q := 130) dX2_hold_129 (by first | rfl | exact zcat_rf _) (by first | rfl | exact zcat_rf _) rfl ?_
      refine aw_iald (q := 131) (v := Q 2 l 1) (50 + 4 * l + 1) dX2_hold_130 (by assumption) (by first | assumption | (simp only [← nI_add, ← pk_mul]; rfl) | rfl) (by omega) (by omega) (hT1.2.1.la (by omega) (by omega)) rfl ?_
      refine aw_iload (q := 133) dX2_hold_131 rfl rfl ?_
      refine aw_iadd (q := 134) dX2_hold_133 rfl ?_
      refine aw_iast (q := 135) (50 + 4 * l + 1) dX2_hold_134 h1 (by first | assumption | simp) (by first | assumption | (simp only [← nI_add, ← pk_mul]; rfl) | rfl) (by omega) (by omega) rfl (fun μ2 hg_μ2 => ?_)
      have h1 : μ2 _ = some _ := hg_μ2 ▸ updM_eq _ _ _
      obtain ⟨hT2, hk2⟩ := hT1.st (s := 2) (i := l) (c := 1) (by omega) (show l < 12 by omega) (show 1 < 4 by omega) rfl hg_μ2 (hT1.2.2.upd (by omega))
      rw [setK_twice] at hT2
      have hm := hT2.m
      have h1 := hT2.a1
      first | refine aw_aload_n (i := 0) (q := 136) dX2_hold_135 rfl rfl rfl ?_ | refine aw_aloadN_n (i := 0) (q := 136) dX2_hold_135 rfl rfl rfl ?_ | refine aw_aloadQ_n (i := 0) (q := 136) dX2_hold_135 rfl rfl rfl ?_
      refine aw_getfield (q := 139) dX2_hold_136 gf_X2_7_2 (by assumption) rfl rfl ?_
      refine aw_iload (q := 141) dX2_hold_139 rfl rfl ?_
      refine aw_iconst (v := 3) (q := 142) dX2_hold_141 rfl rfl ?_
      refine aw_iadd (q := 143) dX2_hold_142 rfl ?_
      refine aw_dup2 (q := 144) dX2_hold_143 (by first | rfl | exact zcat_rf _) (by first | rfl | exact zcat_rf _) rfl ?_
      refine aw_iald (q := 145) (v := Q 2 l 3) (50 + 4 * l + 3) dX2_hold_144 (by assumption) (by first | assumption | (simp only [← nI_add, ← pk_mul]; rfl) | rfl) (by omega) (by omega) ((hT2.2.1.la (by omega) (by omega)).trans (updP_ne (by omega))) rfl ?_
      refine aw_iconst (v := 1) (q := 146) dX2_hold_145 rfl rfl ?_
      refine aw_iadd (q := 147) dX2_hold_146 rfl ?_
      refine aw_iast (q := 148) (50 + 4 * l + 3) dX2_hold_147 h1 (by first | assumption | simp) (by first | assumption | (simp only [← nI_add, ← pk_mul]; rfl) | rfl) (by omega) (by omega) rfl (fun μ3 hg_μ3 => ?_)
      have h1 : μ3 _ = some _ := hg_μ3 ▸ updM_eq _ _ _
      obtain ⟨hT3, hk3⟩ := hT2.st (s := 2) (i := l) (c := 3) (by omega) (show l < 12 by omega) (show 3 < 4 by omega) rfl hg_μ3 (hT2.2.2.upd (by omega))
      rw [setK_twice] at hT3
      have hm := hT3.m
      have h1 := hT3.a1
      have rest2 : ∀ (v : Int32), v = (if tBreaks Q k l = true then 2 else 1) → AW G 5 MX2_hold (tPost8 G μ m lam K (tHoldLit Q (K 8) s k l).1 (tHoldLit Q (K 8) s k l).2 none) 0 0 165 [(0, .ref m), (1, .int (nI s)), (2, .int (100 + 7 * nI s)), (4, .int (nI l)), (5, .int (50 + 4 * nI l)), (7, .int (zB (tBreaks Q k l = true))), (8, .int (tHours Q k l))] [.int v, .int (100 + 7 * nI s + 3), .ref (lam 1)] μ3 := by
        intro v hv
        refine aw_iast (q := 166) (100 + 7 * s + 3) dX2_hold_165 h1 (by first | assumption | simp) (by first | assumption | (simp only [← nI_add, ← pk_mul]; rfl) | rfl) (by omega) (by omega) rfl (fun μ4 hg_μ4 => ?_)
        have h1 : μ4 _ = some _ := hg_μ4 ▸ updM_eq _ _ _
        obtain ⟨hT4, hk4⟩ := hT3.st (s := 3) (i := s) (c := 3) (by omega) (show s < 60 by omega) (show 3 < 7 by omega) rfl hg_μ4 (hT3.2.2.upd (by omega))
        rw [setK_twice] at hT4
        have hm := hT4.m
        have h1 := hT4.a1
        first | refine aw_aload_n (i := 0) (q := 167) dX2_hold_166 rfl rfl rfl ?_ | refine aw_aloadN_n (i := 0) (q := 167) dX2_hold_166 rfl rfl rfl ?_ | refine aw_aloadQ_n (i := 0) (q := 167) dX2_hold_166 rfl rfl rfl ?_
        refine aw_getfield (q := 170) dX2_hold_167 gf_X2_7_2 (by assumption) rfl rfl ?_
        refine aw_iload_n (i := 2) (q := 171) dX2_hold_170 rfl rfl rfl ?_
        refine aw_iconst (v := 4) (q := 172) dX2_hold_171 rfl rfl ?_
        refine aw_iadd (q := 173) dX2_hold_172 rfl ?_
        refine aw_iload (q := 175) dX2_hold_173 rfl rfl ?_
        refine aw_iast (q := 176) (100 + 7 * s + 4) dX2_hold_175 h1 (by first | assumption | simp) (by first | assumption | (simp only [← nI_add, ← pk_mul]; rfl) | rfl) (by omega) (by omega) rfl (fun μ5 hg_μ5 => ?_)
        have h1 : μ5 _ = some _ := hg_μ5 ▸ updM_eq _ _ _
        obtain ⟨hT5, hk5⟩ := hT4.st (s := 3) (i := s) (c := 4) (by omega) (show s < 60 by omega) (show 4 < 7 by omega) rfl hg_μ5 (hT4.2.2.upd (by omega))
        rw [setK_twice] at hT5
        have hm := hT5.m
        have h1 := hT5.a1
        first | refine aw_aload_n (i := 0) (q := 177) dX2_hold_176 rfl rfl rfl ?_ | refine aw_aloadN_n (i := 0) (q := 177) dX2_hold_176 rfl rfl rfl ?_ | refine aw_aloadQ_n (i := 0) (q := 177) dX2_hold_176 rfl rfl rfl ?_
        refine aw_getfield (q := 180) dX2_hold_177 gf_X2_7_2 (by assumption) rfl rfl ?_
        refine aw_iload_n (i := 2) (q := 181) dX2_hold_180 rfl rfl rfl ?_
        refine aw_iconst (v := 5) (q := 182) dX2_hold_181 rfl rfl ?_
        refine aw_iadd (q := 183) dX2_hold_182 rfl ?_
        refine aw_iload (q := 185) dX2_hold_183 rfl rfl ?_
        refine aw_iast (q := 186) (100 + 7 * s + 5) dX2_hold_185 h1 (by first | assumption | simp) (by first | assumption | (simp only [← nI_add, ← pk_mul]; rfl) | rfl) (by omega) (by omega) rfl (fun μ6 hg_μ6 => ?_)
        have h1 : μ6 _ = some _ := hg_μ6 ▸ updM_eq _ _ _
        obtain ⟨hT6, hk6⟩ := hT5.st (s := 3) (i := s) (c := 5) (by omega) (show s < 60 by omega) (show 5 < 7 by omega) rfl hg_μ6 (hT5.2.2.upd (by omega))
        rw [setK_twice, hv] at hT6
        have eW : updP (updP (updP (updP (updP Q 2 l 1 (Q 2 l 1 + tHours Q k l)) 2 l 3 (Q 2 l 3 + 1)) 3 s 3 (if tBreaks Q k l = true then 2 else 1)) 3 s 4 (nI l)) 3 s 5 (tHours Q k l) = tWorn Q s k l := rfl
        rw [eW] at hT6
        have hm := hT6.m
        have h1 := hT6.a1
        have hBW : tBkOk (tWorn Q s k l) := by
          refine hB.congr (fun b => ?_) ?_ ?_
          · unfold tWorn
            rw [updP_ne (by omega), updP_ne (by omega), updP_ne (by omega), updP_ne (by omega), updP_ne (by omega)]
            exact hQo _ _ _ (by omega)
          · unfold tWorn
            rw [pcn_upd (by omega), pcn_upd (by omega), pcn_upd (by omega), pcn_upd (by omega), pcn_upd (by omega)]
            exact hQc _
          · unfold tWorn
            rw [pcn_upd (by omega), pcn_upd (by omega), pcn_upd (by omega), pcn_upd (by omega), pcn_upd (by omega)]
            exact hQc _
        have rest3 : ∀ (v : Int32), v = (if tBreaks Q k l = true then 2 else 1) → AW G 5 MX2_hold (tPost8 G μ m lam K (tHoldLit Q (K 8) s k l).1 (tHoldLit Q (K 8) s k l).2 none) 0 0 198 [(0, .ref m), (5, .int (50 + 4 * nI l))] [.int v, .int (nI s), .ref m] μ6 := by
          intro v hv
          subst hv
          refine aw_callV (q := 201) dX2_hold_198 (C2_close hT6 rfl hBW) cv_X2_146_2 (by assumption) rfl rfl (by decide) (by decide) (by first | exact Nat.le_of_ble_eq_true rfl | simp [zcat_rf, Value.category]) rfl (fun v198 μ7 hp => ?_)
          obtain ⟨rfl, ⟨n7, hT7⟩, hk7⟩ := hp
          rw [setK_ne (by decide : (8 : Nat) ≠ 1), setK_comm _ _ _ (by decide : (1 : Nat) ≠ 8), setK_twice] at hT7
          have hT7 : zTP G μ7 m lam (setK (setK K 8 (tHeld Q (K 8) s k l).2) 1 n7) (tHeld Q (K 8) s k l).1 := hT7
          have hm := hT7.m
          have h1 := hT7.a1
          first | refine aw_aload_n (i := 0) (q := 202) dX2_hold_201 rfl rfl rfl ?_ | refine aw_aloadN_n (i := 0) (q := 202) dX2_hold_201 rfl rfl rfl ?_ | refine aw_aloadQ_n (i := 0) (q := 202) dX2_hold_201 rfl rfl rfl ?_
          refine aw_getfield (q := 205) dX2_hold_202 gf_X2_7_2 (by assumption) rfl rfl ?_
          refine aw_iload (q := 207) dX2_hold_205 rfl rfl ?_
          refine aw_iconst (v := 2) (q := 208) dX2_hold_207 rfl rfl ?_
          refine aw_iadd (q := 209) dX2_hold_208 rfl ?_
          first | refine aw_aload_n (i := 0) (q := 210) dX2_hold_209 rfl rfl rfl ?_ | refine aw_aloadN_n (i := 0) (q := 210) dX2_hold_209 rfl rfl rfl ?_ | refine aw_aloadQ_n (i := 0) (q := 210) dX2_hold_209 rfl rfl rfl ?_
          refine aw_getfield (q := 213) dX2_hold_210 gf_X2_7_2 (by assumption) rfl rfl ?_
          refine aw_iload (q := 215) dX2_hold_213 rfl rfl ?_
          refine aw_iconst (v := 1) (q := 216) dX2_hold_215 rfl rfl ?_
          refine aw_iadd (q := 217) dX2_hold_216 rfl ?_
          refine aw_iald (q := 218) (v := (tHeld Q (K 8) s k l).1 2 l 1) (50 + 4 * l + 1) dX2_hold_217 (by assumption) (by first | assumption | (simp only [← nI_add, ← pk_mul]; rfl) | rfl) (by omega) (by omega) (hT7.2.1.la (by omega) (by omega)) rfl ?_
          first | refine aw_aload_n (i := 0) (q := 219) dX2_hold_218 rfl rfl rfl ?_ | refine aw_aloadN_n (i := 0) (q := 219) dX2_hold_218 rfl rfl rfl ?_ | refine aw_aloadQ_n (i := 0) (q := 219) dX2_hold_218 rfl rfl rfl ?_
          refine aw_getfield (q := 222) dX2_hold_219 gf_X2_7_2 (by assumption) rfl rfl ?_
          refine aw_iload (q := 224) dX2_hold_222 rfl rfl ?_
          refine aw_iald (q := 225) (v := (tHeld Q (K 8) s k l).1 2 l 0) (50 + 4 * l) dX2_hold_224 (by assumption) (by first | assumption | (simp only [← nI_add, ← pk_mul]; rfl) | rfl) (by omega) (by omega) (hT7.2.1.la (c := 0) (by omega) (by omega)) rfl ?_
          have hk' := ((((((hk1.tr hk2).tr hk3).tr hk4).tr hk5).tr hk6).tr hk7)
          refine aw_icmp_ne (tgt := 232) (q := 228) dX2_hold_225 (by decide) rfl (fun hc => ?_) (fun hc => ?_)
          · first | refine aw_aload_n (i := 0) (q := 233) dX2_hold_232 rfl rfl rfl ?_ | refine aw_aloadN_n (i := 0) (q := 233) dX2_hold_232 rfl rfl rfl ?_ | refine aw_aloadQ_n (i := 0) (q := 233) dX2_hold_232 rfl rfl rfl ?_
            refine aw_getfield (q := 236) dX2_hold_233 gf_X2_7_2 (by assumption) rfl rfl ?_
            refine aw_iload (q := 238) dX2_hold_236 rfl rfl ?_
            refine aw_iconst (v := 2) (q := 239) dX2_hold_238 rfl rfl ?_
            refine aw_iadd (q := 240) dX2_hold_239 rfl ?_
            refine aw_iald (q := 241) (v := (tHeld Q (K 8) s k l).1 2 l 2) (50 + 4 * l + 2) dX2_hold_240 (by assumption) (by first | assumption | (simp only [← nI_add, ← pk_mul]; rfl) | rfl) (by omega) (by omega) (hT7.2.1.la (by omega) (by omega)) rfl ?_
            refine aw_iast (q := 242) (50 + 4 * l + 2) dX2_hold_241 h1 (by first | assumption | simp) (by first | assumption | (simp only [← nI_add, ← pk_mul]; rfl) | rfl) (by omega) (by omega) rfl (fun μ8 hg_μ8 => ?_)
            have h1 : μ8 _ = some _ := hg_μ8 ▸ updM_eq _ _ _
            obtain ⟨hT8, hk8⟩ := hT7.st (s := 2) (i := l) (c := 2) (by omega) (show l < 12 by omega) (show 2 < 4 by omega) rfl hg_μ8 (hT7.2.2.upd (by omega))
            rw [setK_twice] at hT8
            exact aw_return dX2_hold_242 rfl (⟨rfl, ⟨_, by dsimp only [tHoldLit]; rw [if_neg hc]; exact hT8⟩, hk'.tr hk8⟩)
          · refine aw_iconst (v := 2) (q := 229) dX2_hold_228 rfl rfl ?_
            refine aw_goto (tgt := 241) dX2_hold_229 (by decide) ?_
            refine aw_iast (q := 242) (50 + 4 * l + 2) dX2_hold_241 h1 (by first | assumption | simp) (by first | assumption | (simp only [← nI_add, ← pk_mul]; rfl) | rfl) (by omega) (by omega) rfl (fun μ8 hg_μ8 => ?_)
            have h1 : μ8 _ = some _ := hg_μ8 ▸ updM_eq _ _ _
            obtain ⟨hT8, hk8⟩ := hT7.st (s := 2) (i := l) (c := 2) (by omega) (show l < 12 by omega) (show 2 < 4 by omega) rfl hg_μ8 (hT7.2.2.upd (by omega))
            rw [setK_twice] at hT8
            exact aw_return dX2_hold_242 rfl (⟨rfl, ⟨_, by dsimp only [tHoldLit]; rw [if_pos hc]; exact hT8⟩, hk'.tr hk8⟩)
        first | refine aw_aload_n (i := 0) (q := 187) dX2_hold_186 rfl rfl rfl ?_ | refine aw_aloadN_n (i := 0) (q := 187) dX2_hold_186 rfl rfl rfl ?_ | refine aw_aloadQ_n (i := 0) (q := 187) dX2_hold_186 rfl rfl rfl ?_
        refine aw_iload_n (i := 1) (q := 188) dX2_hold_187 rfl rfl rfl ?_
        refine aw_iload (q := 190) dX2_hold_188 rfl rfl ?_
        refine aw_if_eq (tgt := 197) (q := 193) dX2_hold_190 (by decide) rfl (fun hy => ?_) (fun hy => ?_)
        · refine aw_iconst (v := 1) (q := 198) dX2_hold_197 rfl rfl ?_
          exact aw_locals (by exact ⟨rfl, rfl, trivial⟩) (rest3 1 (by rw [if_neg (zB_0 hy)]))
        · refine aw_iconst (v := 2) (q := 194) dX2_hold_193 rfl rfl ?_
          refine aw_goto (tgt := 198) dX2_hold_194 (by decide) ?_
          exact aw_locals (by exact ⟨rfl, rfl, trivial⟩) (rest3 2 (by rw [if_pos (zB_1 hy)]))
      first | refine aw_aload_n (i := 0) (q := 149) dX2_hold_148 rfl rfl rfl ?_ | refine aw_aloadN_n (i := 0) (q := 149) dX2_hold_148 rfl rfl rfl ?_ | refine aw_aloadQ_n (i := 0) (q := 149) dX2_hold_148 rfl rfl rfl ?_
      refine aw_getfield (q := 152) dX2_hold_149 gf_X2_7_2 (by assumption) rfl rfl ?_
      refine aw_iload_n (i := 2) (q := 153) dX2_hold_152 rfl rfl rfl ?_
      refine aw_iconst (v := 3) (q := 154) dX2_hold_153 rfl rfl ?_
      refine aw_iadd (q := 155) dX2_hold_154 rfl ?_
      refine aw_iload (q := 157) dX2_hold_155 rfl rfl ?_
      refine aw_if_eq (tgt := 164) (q := 160) dX2_hold_157 (by decide) rfl (fun hy => ?_) (fun hy => ?_)
      · refine aw_iconst (v := 1) (q := 165) dX2_hold_164 rfl rfl ?_
        exact aw_locals (by exact ⟨rfl, rfl, rfl, rfl, rfl, rfl, rfl, trivial⟩) (rest2 1 (by rw [if_neg (zB_0 hy)]))
      · refine aw_iconst (v := 2) (q := 161) dX2_hold_160 rfl rfl ?_
        refine aw_goto (tgt := 165) dX2_hold_161 (by decide) ?_
        exact aw_locals (by exact ⟨rfl, rfl, rfl, rfl, rfl, rfl, rfl, trivial⟩) (rest2 2 (by rw [if_pos (zB_1 hy)]))
    refine aw_icmp_le (tgt := 100) (q := 96) dX2_hold_93 (by decide) rfl (fun hb => ?_) (fun hb => ?_)
    · refine aw_iconst (v := 0) (q := 101) dX2_hold_100 rfl rfl ?_
      refine aw_istore (q := 103) dX2_hold_101 (by decide) rfl ?_
      refine aw_iload (q := 105) dX2_hold_103 rfl rfl ?_
      have hbr : tBreaks Q k l = false := decide_eq_false (Int32.not_lt.mpr hb)
      refine aw_if_eq (tgt := 113) (q := 108) dX2_hold_105 (by decide) rfl (fun _ => ?_) (fun hc => absurd (rfl) hc)
      first | refine aw_aload_n (i := 0) (q := 114) dX2_hold_113 rfl rfl rfl ?_ | refine aw_aloadN_n (i := 0) (q := 114) dX2_hold_113 rfl rfl rfl ?_ | refine aw_aloadQ_n (i := 0) (q := 114) dX2_hold_113 rfl rfl rfl ?_
      refine aw_getfield (q := 117) dX2_hold_114 gf_X2_7_2 (by assumption) rfl rfl ?_
      refine aw_iload_n (i := 3) (q := 118) dX2_hold_117 rfl rfl rfl ?_
      refine aw_iald (q := 119) (v := Q 1 k 0) (20 + 3 * k) dX2_hold_118 (by assumption) (by first | assumption | (simp only [← nI_add, ← pk_mul]; rfl) | rfl) (by omega) (by omega) (hT1.2.1.ki (c := 0) (by omega) (by omega)) rfl ?_
      refine aw_istore (q := 121) dX2_hold_119 (by decide) rfl ?_
      refine rest _ ?_
      exact ⟨rfl, rfl, rfl, rfl, rfl, by rw [zB_f (by rw [hbr]; decide)]; rfl, by rw [tHours, if_neg (by rw [hbr]; decide)]; rfl, trivial⟩
    · refine aw_iconst (v := 1) (q := 97) dX2_hold_96 rfl rfl ?_
      refine aw_goto (tgt := 101) dX2_hold_97 (by decide) ?_
      refine aw_istore (q := 103) dX2_hold_101 (by decide) rfl ?_
      refine aw_iload (q := 105) dX2_hold_103 rfl rfl ?_
      have hbr : tBreaks Q k l = true := decide_eq_true (Int32.not_le.mp hb)
      refine aw_if_eq (tgt := 113) (q := 108) dX2_hold_105 (by decide) rfl (fun hc => absurd hc ((by decide))) (fun _ => ?_)
      refine aw_iload (q := 110) dX2_hold_108 rfl rfl ?_
      refine aw_goto (tgt := 119) dX2_hold_110 (by decide) ?_
      refine aw_istore (q := 121) dX2_hold_119 (by decide) rfl ?_
      refine rest _ ?_
      exact ⟨rfl, rfl, rfl, rfl, rfl, by rw [zB_t hbr]; rfl, by rw [tHours, if_pos hbr]; rfl, trivial⟩
  · first | refine aw_aload_n (i := 0) (q := 36) dX2_hold_35 rfl rfl rfl ?_ | refine aw_aloadN_n (i := 0) (q := 36) dX2_hold_35 rfl rfl rfl ?_ | refine aw_aloadQ_n (i := 0) (q := 36) dX2_hold_35 rfl rfl rfl ?_
    refine aw_getfield (q := 39) dX2_hold_36 gf_X2_7_2 (by assumption) rfl rfl ?_
    refine aw_iload_n (i := 2) (q := 40) dX2_hold_39 rfl rfl rfl ?_
    refine aw_iconst (v := 3) (q := 41) dX2_hold_40 rfl rfl ?_
    refine aw_iadd (q := 42) dX2_hold_41 rfl ?_
    refine aw_iconst (v := 3) (q := 43) dX2_hold_42 rfl rfl ?_
    have hg : tHasD P (P 1 k 1) = false := by
      have := zB_0 hg
      cases h : tHasD P (P 1 k 1) <;> simp_all
    have eH : tHold P (K 8) s = tClose (updP P 3 s 3 3) (K 8) s 4 := by rw [tHold, ← e0, if_neg (by rw [hg]; decide)]
    rw [tLight_no hg] at hT1
    rw [eH]
    refine aw_iast (q := 44) (100 + 7 * s + 3) dX2_hold_43 h1 (by first | assumption | simp) (by first | assumption | (simp only [← nI_add, ← pk_mul]; rfl) | rfl) (by omega) (by omega) rfl (fun μ2 hg_μ2 => ?_)
    have h1 : μ2 _ = some _ := hg_μ2 ▸ updM_eq _ _ _
    obtain ⟨hT2, hk2⟩ := hT1.st (s := 3) (i := s) (c := 3) (by omega) (show s < 60 by omega) (show 3 < 7 by omega) rfl hg_μ2 (hT1.2.2.upd (by omega))
    rw [setK_twice] at hT2
    have hm := hT2.m
    first | refine aw_aload_n (i := 0) (q := 45) dX2_hold_44 rfl rfl rfl ?_ | refine aw_aloadN_n (i := 0) (q := 45) dX2_hold_44 rfl rfl rfl ?_ | refine aw_aloadQ_n (i := 0) (q := 45) dX2_hold_44 rfl rfl rfl ?_
    refine aw_iload_n (i := 1) (q := 46) dX2_hold_45 rfl rfl rfl ?_
    refine aw_iconst (v := 4) (q := 47) dX2_hold_46 rfl rfl ?_
    refine aw_callV (q := 50) dX2_hold_47 (C2_close hT2 rfl (hB.upd (Or.inr ⟨rfl, trivial⟩))) cv_X2_146_2 (by assumption) rfl rfl (by decide) (by decide) (by first | exact Nat.le_of_ble_eq_true rfl | simp [zcat_rf, Value.category]) rfl (fun v47 μ3 hp => ?_)
    obtain ⟨rfl, ⟨n3, hT3⟩, hk3⟩ := hp
    rw [setK_ne (by decide : (8 : Nat) ≠ 1), setK_comm _ _ _ (by decide : (1 : Nat) ≠ 8), setK_twice] at hT3
    exact aw_return dX2_hold_50 rfl (⟨rfl, ⟨_, hT3⟩, (hk1.tr hk2).tr hk3⟩)
end ZTW10
