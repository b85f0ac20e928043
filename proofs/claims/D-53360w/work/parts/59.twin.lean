/-! THE TWIN, part 18: what there is -/
set_option maxRecDepth 100000
theorem zSw {x : Int32} {h : Nat} (hx : ∀ k, k ≤ h → x ≠ nI k) : x.toInt < 0 ∨ (h : Int) < x.toInt := by
  by_cases h0 : x < 0
  · exact Or.inl (Int32.lt_iff_toInt_lt.mp h0)
  · obtain ⟨j, hj, rfl⟩ := nI_of h0
    right
    rw [nI_toInt hj]
    have : ¬ j ≤ h := fun q => hx j q rfl
    omega
theorem zSp (x : Int32) (h : Nat) : (∃ k, k ≤ h ∧ x = nI k) ∨ ∀ k, k ≤ h → x ≠ nI k := by
  by_cases q : ∃ k, k ≤ h ∧ x = nI k
  · exact Or.inl q
  · exact Or.inr (fun k hk e => q ⟨k, hk, e⟩)
def tOfKind (P : zP) (k w : Int32) : Int32 :=
  if 0 ≤ k ∧ k ≤ P 0 0 7 - 1 then
    if 0 ≤ w ∧ w ≤ 4 then
      if w < 3 then P 1 k.toNatClampNeg w.toNatClampNeg else tSumR (fun s => if P 3 s 0 = k ∧ P 3 s 3 = w - 3 then 1 else 0) (pcn P 9)
    else -2
  else -1
def tOfLamp (P : zP) (l w : Int32) : Int32 :=
  if 0 ≤ l ∧ l ≤ P 0 0 8 - 1 then
    if 0 ≤ w ∧ w ≤ 2 then P 2 l.toNatClampNeg w.toNatClampNeg else if w = 3 then tBr P l.toNatClampNeg else if w = 4 then P 2 l.toNatClampNeg 3 else -2
  else -1
def tShow (P : zP) (s w : Int32) : Int32 :=
  if 0 ≤ s ∧ s ≤ P 0 0 9 - 1 then
    if 0 ≤ w ∧ w ≤ 9 then
      if w < 6 then P 3 s.toNatClampNeg w.toNatClampNeg else if w = 6 then tTaken P s else if w = 9 then P 3 s.toNatClampNeg 6 else tSumOf P s (w - 2).toNatClampNeg
    else -2
  else -1
def tFreeC (P : zP) (s r : Int32) : Int32 :=
  if 0 ≤ s ∧ s ≤ P 0 0 9 - 1 then (if 0 ≤ r ∧ r ≤ 7 then tFreeIn P s r.toNatClampNeg else -2) else -1
def tBooking (P : zP) (b w : Int32) : Int32 :=
  if 0 ≤ b ∧ b ≤ P 0 0 10 - 1 then
    if 0 ≤ w ∧ w ≤ 6 then P 4 b.toNatClampNeg w.toNatClampNeg else if 10 ≤ w ∧ w ≤ 17 then P 4 b.toNatClampNeg (w.toNatClampNeg - 2) else -2
  else -1
def tOfProm (P : zP) (p w : Int32) : Int32 :=
  if 0 ≤ p ∧ p ≤ P 0 0 12 - 1 then
    if 0 ≤ w ∧ w ≤ 9 then P 6 p.toNatClampNeg w.toNatClampNeg else if w = 10 then tWould P p.toNatClampNeg else -2
  else -1
def tBestK (f : Nat → Int32) : Nat → Nat
  | 0 => 6
  | i + 1 => if 0 < i ∧ f (tBestK f i) < f (5 + i) then 5 + i else tBestK f i
theorem tBestK_lt (f : Nat → Int32) : ∀ i, i ≤ 5 → tBestK f i < 10
  | 0, _ => (by decide : 6 < 10)
  | i + 1, h => by
    have := tBestK_lt f i (by omega)
    unfold tBestK
    split <;> omega
def tReason (P : zP) (p : Int32) : Int32 :=
  if 0 ≤ p ∧ p ≤ P 0 0 12 - 1 then
    if P 6 p.toNatClampNeg 4 = 2 then (if tSumR (fun k => P 6 p.toNatClampNeg (5 + k)) 5 < P 6 p.toNatClampNeg 2 then 1 else nI (tBestK (P 6 p.toNatClampNeg) 5) - 4) else -6
  else -1
def tAtC (P : zP) (d s : Int32) : Int32 :=
  if (0 ≤ d ∧ d ≤ 999) ∧ (0 ≤ s ∧ s ≤ 5) then (if 0 ≤ tEventAt P d s then 100 + tEventAt P d s else tPlannedAt P d s) else -2
def tMoney (P : zP) (w : Int32) : Int32 :=
  if 0 ≤ w ∧ w ≤ 3 then tSumR (fun b => if w = 0 then P 4 b 5 else if w = 1 then P 4 b 6 else if (0 ≤ P 4 b 2 ↔ w = 2) then P 4 b 5 - P 4 b 6 else 0) (pcn P 10) else -2
section ZTW18
variable {G : zG} {μ : zM} {m : Nat} {lam : Nat → Nat} {K : Nat → Nat → Int32} {P : zP} {R : tR}
theorem C2_ofKind {k w : Int32} (hT : zTP G μ m lam K P) : Meets G 3 MX2_ofKind [.ref m, .int k, .int w] μ (zPure (.int (tOfKind P k w)) μ) 0 0 := by
  have hm := hT.m
  have h1 := hT.a1
  obtain ⟨hn, hN⟩ := hT.2.2.k
  obtain ⟨hsn, hsN⟩ := hT.2.2.s
  refine meets_of (by decide +kernel) (Nat.le_of_ble_eq_true rfl) ?_
  first | refine aw_aload_n (i := 0) (q := 1) dX2_ofKind_0 rfl rfl rfl ?_ | refine aw_aloadN_n (i := 0) (q := 1) dX2_ofKind_0 rfl rfl rfl ?_ | refine aw_aloadQ_n (i := 0) (q := 1) dX2_ofKind_0 rfl rfl rfl ?_
  refine aw_iload_n (i := 1) (q := 2) dX2_ofKind_1 rfl rfl rfl ?_
  refine aw_callV (q := 5) dX2_ofKind_2 (C2_isKind hT) cv_X2_56_2 (by assumption) rfl rfl (by decide) (by decide) (by first | exact Nat.le_of_ble_eq_true rfl | simp [zcat_rf, Value.category]) rfl (zpk ?_)
  refine aw_if_ne (tgt := 10) (q := 8) dX2_ofKind_5 (by decide) rfl (fun ha => ?_) (fun ha => ?_)
  · skip
    have ga := zB_1 ha
    obtain ⟨j, hj, rfl⟩ := tIx hn (by omega) ga
    refine aw_iload_n (i := 2) (q := 11) dX2_ofKind_10 rfl rfl rfl ?_
    refine aw_iconst (v := 0) (q := 12) dX2_ofKind_11 rfl rfl ?_
    refine aw_iconst (v := 4) (q := 13) dX2_ofKind_12 rfl rfl ?_
    refine aw_callS (q := 16) dX2_ofKind_13 (C2_in) cs_X2_49 rfl rfl (by decide) (by decide) (by first | exact Nat.le_of_ble_eq_true rfl | simp [zcat_rf, Value.category]) rfl (zpk ?_)
    refine aw_if_ne (tgt := 22) (q := 19) dX2_ofKind_16 (by decide) rfl (fun hb => ?_) (fun hb => ?_)
    · skip
      have gb := zB_1 hb
      obtain ⟨c, hc, rfl⟩ := tIx (v := 5) (n := 5) rfl (by omega) gb
      refine aw_iload_n (i := 2) (q := 23) dX2_ofKind_22 rfl rfl rfl ?_
      refine aw_iconst (v := 3) (q := 24) dX2_ofKind_23 rfl rfl ?_
      refine aw_icmp_ge (tgt := 41) (q := 27) dX2_ofKind_24 (by decide) rfl (fun hc3 => ?_) (fun hc3 => ?_)
      · refine aw_iconst (v := 0) (q := 42) dX2_ofKind_41 rfl rfl ?_
        refine aw_istore_n (i := 3) (q := 43) dX2_ofKind_42 rfl (by decide) rfl ?_
        refine aw_iconst (v := 0) (q := 44) dX2_ofKind_43 rfl rfl ?_
        refine aw_istore (q := 46) dX2_ofKind_44 (by decide) rfl ?_
        have e0 : tOfKind P (nI j) (nI c) = tSumR (fun s => if P 3 s 0 = nI j ∧ P 3 s 3 = nI c - 3 then 1 else 0) (pcn P 9) := by rw [tOfKind, if_pos ga, if_pos gb, if_neg (Int32.not_lt.mpr hc3)]
        have loop : ∀ n e, e + n = pcn P 9 → AW G 3 MX2_ofKind (zPure (.int (tOfKind P (nI j) (nI c))) μ) 0 0 46 [(0, .ref m), (1, .int (nI j)), (2, .int (nI c)), (3, .int (tSumR (fun s => if P 3 s 0 = nI j ∧ P 3 s 3 = nI c - 3 then 1 else 0) e)), (4, .int (nI e))] [] μ := by
          intro n
          induction n with
          | zero =>
            intro e he
            refine aw_iload (q := 48) dX2_ofKind_46 rfl rfl ?_
            first | refine aw_aload_n (i := 0) (q := 49) dX2_ofKind_48 rfl rfl rfl ?_ | refine aw_aloadN_n (i := 0) (q := 49) dX2_ofKind_48 rfl rfl rfl ?_ | refine aw_aloadQ_n (i := 0) (q := 49) dX2_ofKind_48 rfl rfl rfl ?_
            refine aw_getfield (q := 52) dX2_ofKind_49 gf_X2_7_2 (by assumption) rfl rfl ?_
            refine aw_bipush (v := 9) (q := 54) dX2_ofKind_52 rfl rfl ?_
            refine aw_iald (q := 55) (v := nI (pcn P 9)) (9) dX2_ofKind_54 (by assumption) (by first | assumption | (simp only [← nI_add, ← pk_mul]; rfl) | rfl) (by omega) (by omega) ((hT.2.1.g (by omega)).trans hsn) rfl ?_
            refine aw_icmp_ge (tgt := 96) (q := 58) dX2_ofKind_55 (by decide) rfl (fun _ => ?_) (fun hc => absurd (nI_le (by omega) (by omega)) hc)
            refine aw_iload_n (i := 3) (q := 97) dX2_ofKind_96 rfl rfl rfl ?_
            exact aw_ireturn dX2_ofKind_97 rfl (by first | rfl | exact zB_nar _) (by refine ⟨?_, rfl⟩; rw [e0, show pcn P 9 = e by omega])
          | succ n ih =>
            intro e he
            have hlt : e < pcn P 9 := by omega
            refine aw_iload (q := 48) dX2_ofKind_46 rfl rfl ?_
            first | refine aw_aload_n (i := 0) (q := 49) dX2_ofKind_48 rfl rfl rfl ?_ | refine aw_aloadN_n (i := 0) (q := 49) dX2_ofKind_48 rfl rfl rfl ?_ | refine aw_aloadQ_n (i := 0) (q := 49) dX2_ofKind_48 rfl rfl rfl ?_
            refine aw_getfield (q := 52) dX2_ofKind_49 gf_X2_7_2 (by assumption) rfl rfl ?_
            refine aw_bipush (v := 9) (q := 54) dX2_ofKind_52 rfl rfl ?_
            refine aw_iald (q := 55) (v := nI (pcn P 9)) (9) dX2_ofKind_54 (by assumption) (by first | assumption | (simp only [← nI_add, ← pk_mul]; rfl) | rfl) (by omega) (by omega) ((hT.2.1.g (by omega)).trans hsn) rfl ?_
            refine aw_icmp_ge (tgt := 96) (q := 58) dX2_ofKind_55 (by decide) rfl (fun hc => absurd hc (nI_ge hlt (by omega))) (fun _ => ?_)
            refine aw_iload_n (i := 3) (q := 59) dX2_ofKind_58 rfl rfl rfl ?_
            first | refine aw_aload_n (i := 0) (q := 60) dX2_ofKind_59 rfl rfl rfl ?_ | refine aw_aloadN_n (i := 0) (q := 60) dX2_ofKind_59 rfl rfl rfl ?_ | refine aw_aloadQ_n (i := 0) (q := 60) dX2_ofKind_59 rfl rfl rfl ?_
            refine aw_iload (q := 62) dX2_ofKind_60 rfl rfl ?_
            refine aw_iconst (v := 0) (q := 63) dX2_ofKind_62 rfl rfl ?_
            refine aw_callV (q := 66) dX2_ofKind_63 (C2_ofShow (s := e) (c := 0) hT rfl rfl (by omega) (by omega)) cv_X2_75_2 (by assumption) rfl rfl (by decide) (by decide) (by first | exact Nat.le_of_ble_eq_true rfl | simp [zcat_rf, Value.category]) rfl (zpk ?_)
            refine aw_iload_n (i := 1) (q := 67) dX2_ofKind_66 rfl rfl rfl ?_
            refine aw_icmp_ne (tgt := 87) (q := 70) dX2_ofKind_67 (by decide) rfl (fun hx => ?_) (fun hx => ?_)
            · refine aw_iconst (v := 0) (q := 88) dX2_ofKind_87 rfl rfl ?_
              refine aw_iadd (q := 89) dX2_ofKind_88 rfl ?_
              refine aw_istore_n (i := 3) (q := 90) dX2_ofKind_89 rfl (by decide) rfl ?_
              refine aw_iinc (q := 93) dX2_ofKind_90 rfl (by first | exact nI_1 _ | rfl) (by decide) rfl ?_
              refine aw_goto (tgt := 46) dX2_ofKind_93 (by decide) ?_
              exact aw_locals (by exact ⟨rfl, rfl, rfl, by simp only [tSumR]; rw [if_neg (fun h => hx h.1)]; rfl, rfl, trivial⟩) (ih (e + 1) (by omega))
            · first | refine aw_aload_n (i := 0) (q := 71) dX2_ofKind_70 rfl rfl rfl ?_ | refine aw_aloadN_n (i := 0) (q := 71) dX2_ofKind_70 rfl rfl rfl ?_ | refine aw_aloadQ_n (i := 0) (q := 71) dX2_ofKind_70 rfl rfl rfl ?_
              refine aw_iload (q := 73) dX2_ofKind_71 rfl rfl ?_
              refine aw_iconst (v := 3) (q := 74) dX2_ofKind_73 rfl rfl ?_
              refine aw_callV (q := 77) dX2_ofKind_74 (C2_ofShow (s := e) (c := 3) hT rfl rfl (by omega) (by omega)) cv_X2_75_2 (by assumption) rfl rfl (by decide) (by decide) (by first | exact Nat.le_of_ble_eq_true rfl | simp [zcat_rf, Value.category]) rfl (zpk ?_)
              refine aw_iload_n (i := 2) (q := 78) dX2_ofKind_77 rfl rfl rfl ?_
              refine aw_iconst (v := 3) (q := 79) dX2_ofKind_78 rfl rfl ?_
              refine aw_isub (q := 80) dX2_ofKind_79 rfl ?_
              refine aw_icmp_ne (tgt := 87) (q := 83) dX2_ofKind_80 (by decide) rfl (fun hy => ?_) (fun hy => ?_)
              · refine aw_iconst (v := 0) (q := 88) dX2_ofKind_87 rfl rfl ?_
                refine aw_iadd (q := 89) dX2_ofKind_88 rfl ?_
                refine aw_istore_n (i := 3) (q := 90) dX2_ofKind_89 rfl (by decide) rfl ?_
                refine aw_iinc (q := 93) dX2_ofKind_90 rfl (by first | exact nI_1 _ | rfl) (by decide) rfl ?_
                refine aw_goto (tgt := 46) dX2_ofKind_93 (by decide) ?_
                exact aw_locals (by exact ⟨rfl, rfl, rfl, by simp only [tSumR]; rw [if_neg (fun h => hy h.2)]; rfl, rfl, trivial⟩) (ih (e + 1) (by omega))
              · refine aw_iconst (v := 1) (q := 84) dX2_ofKind_83 rfl rfl ?_
                refine aw_goto (tgt := 88) dX2_ofKind_84 (by decide) ?_
                refine aw_iadd (q := 89) dX2_ofKind_88 rfl ?_
                refine aw_istore_n (i := 3) (q := 90) dX2_ofKind_89 rfl (by decide) rfl ?_
                refine aw_iinc (q := 93) dX2_ofKind_90 rfl (by first | exact nI_1 _ | rfl) (by decide) rfl ?_
                refine aw_goto (tgt := 46) dX2_ofKind_93 (by decide) ?_
                exact aw_locals (by exact ⟨rfl, rfl, rfl, by simp only [tSumR]; rw [if_pos ⟨hx, hy⟩]; rfl, rfl, trivial⟩) (ih (e + 1) (by omega))
        exact aw_locals (by exact ⟨rfl, rfl, rfl, rfl, rfl, trivial⟩) (loop (pcn P 9) 0 (by omega))
      · first | refine aw_aload_n (i := 0) (q := 28) dX2_ofKind_27 rfl rfl rfl ?_ | refine aw_aloadN_n (i := 0) (q := 28) dX2_ofKind_27 rfl rfl rfl ?_ | refine aw_aloadQ_n (i := 0) (q := 28) dX2_ofKind_27 rfl rfl rfl ?_
        refine aw_getfield (q := 31) dX2_ofKind_28 gf_X2_7_2 (by assumption) rfl rfl ?_
        refine aw_bipush (v := 20) (q := 33) dX2_ofKind_31 rfl rfl ?_
        refine aw_iconst (v := 3) (q := 34) dX2_ofKind_33 rfl rfl ?_
        refine aw_iload_n (i := 1) (q := 35) dX2_ofKind_34 rfl rfl rfl ?_
        refine aw_imul (q := 36) dX2_ofKind_35 rfl ?_
        refine aw_iadd (q := 37) dX2_ofKind_36 rfl ?_
        refine aw_iload_n (i := 2) (q := 38) dX2_ofKind_37 rfl rfl rfl ?_
        refine aw_iadd (q := 39) dX2_ofKind_38 rfl ?_
        have hlt : c < 3 := by
          have h := Int32.not_le.mp hc3
          exact (nI_ltI (b := 3) (by omega) (by omega)).mp h
        refine aw_iald (q := 40) (v := P 1 j c) (20 + 3 * j + c) dX2_ofKind_39 (by assumption) (by first | assumption | (simp only [← nI_add, ← pk_mul]; rfl) | rfl) (by omega) (by omega) (hT.2.1.ki (by omega) hlt) rfl ?_
        exact aw_ireturn dX2_ofKind_40 rfl (by first | rfl | exact zB_nar _) (by refine ⟨?_, rfl⟩; rw [tOfKind, if_pos ga, if_pos gb, if_pos (Int32.not_le.mp hc3), nI_clamp (by omega), nI_clamp (by omega)])
    · refine aw_bipush (v := (-2)) (q := 21) dX2_ofKind_19 rfl rfl ?_
      exact aw_ireturn dX2_ofKind_21 rfl (by first | rfl | exact zB_nar _) (by refine ⟨?_, rfl⟩; rw [tOfKind, if_pos ga, if_neg (zB_0 hb)])
  · refine aw_iconst (v := (-1)) (q := 9) dX2_ofKind_8 rfl rfl ?_
    exact aw_ireturn dX2_ofKind_9 rfl (by first | rfl | exact zB_nar _) (by refine ⟨?_, rfl⟩; rw [tOfKind, if_neg (zB_0 ha)])
theorem C2_ofLamp {k w : Int32} (hT : zTP G μ m lam K P) (hL : tLife P) : Meets G 3 MX2_ofLamp [.ref m, .int k, .int w] μ (zPure (.int (tOfLamp P k w)) μ) 0 0 := by
  have hm := hT.m
  have h1 := hT.a1
  obtain ⟨hn, hN⟩ := hT.2.2.l
  refine meets_of (by decide +kernel) (Nat.le_of_ble_eq_true rfl) ?_
  first | refine aw_aload_n (i := 0) (q := 1) dX2_ofLamp_0 rfl rfl rfl ?_ | refine aw_aloadN_n (i := 0) (q := 1) dX2_ofLamp_0 rfl rfl rfl ?_ | refine aw_aloadQ_n (i := 0) (q := 1) dX2_ofLamp_0 rfl rfl rfl ?_
  refine aw_iload_n (i := 1) (q := 2) dX2_ofLamp_1 rfl rfl rfl ?_
  refine aw_callV (q := 5) dX2_ofLamp_2 (C2_isLamp hT) cv_X2_68_2 (by assumption) rfl rfl (by decide) (by decide) (by first | exact Nat.le_of_ble_eq_true rfl | simp [zcat_rf, Value.category]) rfl (zpk ?_)
  refine aw_if_ne (tgt := 10) (q := 8) dX2_ofLamp_5 (by decide) rfl (fun ha => ?_) (fun ha => ?_)
  · skip
    have ga := zB_1 ha
    obtain ⟨j, hj, rfl⟩ := tIx hn (by omega) ga
    have e0 : tOfLamp P (nI j) w = if 0 ≤ w ∧ w ≤ 2 then P 2 j w.toNatClampNeg else if w = 3 then tBr P j else if w = 4 then P 2 j 3 else -2 := by rw [tOfLamp, if_pos ga, nI_clamp (by omega)]
    refine aw_iload_n (i := 2) (q := 11) dX2_ofLamp_10 rfl rfl rfl ?_
    have fld : ∀ c, c < 3 → w = nI c → AW G 3 MX2_ofLamp (zPure (.int (tOfLamp P (nI j) w)) μ) 0 0 40 (lv_args 0 [.ref m, .int (nI j), .int w]) [] μ := by
      intro c hc hw
      subst hw
      first | refine aw_aload_n (i := 0) (q := 41) dX2_ofLamp_40 rfl rfl rfl ?_ | refine aw_aloadN_n (i := 0) (q := 41) dX2_ofLamp_40 rfl rfl rfl ?_ | refine aw_aloadQ_n (i := 0) (q := 41) dX2_ofLamp_40 rfl rfl rfl ?_
      refine aw_getfield (q := 44) dX2_ofLamp_41 gf_X2_7_2 (by assumption) rfl rfl ?_
      refine aw_bipush (v := 50) (q := 46) dX2_ofLamp_44 rfl rfl ?_
      refine aw_iconst (v := 4) (q := 47) dX2_ofLamp_46 rfl rfl ?_
      refine aw_iload_n (i := 1) (q := 48) dX2_ofLamp_47 rfl rfl rfl ?_
      refine aw_imul (q := 49) dX2_ofLamp_48 rfl ?_
      refine aw_iadd (q := 50) dX2_ofLamp_49 rfl ?_
      refine aw_iload_n (i := 2) (q := 51) dX2_ofLamp_50 rfl rfl rfl ?_
      refine aw_iadd (q := 52) dX2_ofLamp_51 rfl ?_
      refine aw_iald (q := 53) (v := P 2 j c) (50 + 4 * j + c) dX2_ofLamp_52 (by assumption) (by first | assumption | (simp only [← nI_add, ← pk_mul]; rfl) | rfl) (by omega) (by omega) (hT.2.1.la (by omega) (by omega)) rfl ?_
      exact aw_ireturn dX2_ofLamp_53 rfl (by first | rfl | exact zB_nar _) (by refine ⟨?_, rfl⟩; rw [e0, if_pos ⟨nI_pos' (by omega), nI_le (a := c) (b := 2) (by omega) (by omega)⟩, nI_clamp (by omega)])
    rcases zSp w 3 with ⟨c, hc, rfl⟩ | hw
    · have h4 : c = 0 ∨ c = 1 ∨ c = 2 ∨ c = 3 := by omega
      rcases h4 with rfl | rfl | rfl | rfl
      · skip
        refine aw_tableIn (tgt := 40) dX2_ofLamp_11 (by decide) (by decide) rfl (by decide) ?_
        exact fld 0 (by omega) rfl
      · skip
        refine aw_tableIn (tgt := 40) dX2_ofLamp_11 (by decide) (by decide) rfl (by decide) ?_
        exact fld 1 (by omega) rfl
      · skip
        refine aw_tableIn (tgt := 40) dX2_ofLamp_11 (by decide) (by decide) rfl (by decide) ?_
        exact fld 2 (by omega) rfl
      · skip
        refine aw_tableIn (tgt := 54) dX2_ofLamp_11 (by decide) (by decide) rfl (by decide) ?_
        first | refine aw_aload_n (i := 0) (q := 55) dX2_ofLamp_54 rfl rfl rfl ?_ | refine aw_aloadN_n (i := 0) (q := 55) dX2_ofLamp_54 rfl rfl rfl ?_ | refine aw_aloadQ_n (i := 0) (q := 55) dX2_ofLamp_54 rfl rfl rfl ?_
        refine aw_iload_n (i := 1) (q := 56) dX2_ofLamp_55 rfl rfl rfl ?_
        refine aw_callV (q := 59) dX2_ofLamp_56 (C2_brightOf hT rfl (by omega) (hL j hj)) cv_X2_140_2 (by assumption) rfl rfl (by decide) (by decide) (by first | exact Nat.le_of_ble_eq_true rfl | simp [zcat_rf, Value.category]) rfl (zpk ?_)
        exact aw_ireturn dX2_ofLamp_59 rfl (by first | rfl | exact zB_nar _) (by refine ⟨?_, rfl⟩; rw [e0, if_neg (by decide), if_pos (show nI 3 = 3 from rfl)]; rfl)
    · skip
      refine aw_tableOut (tgt := 60) dX2_ofLamp_11 (zSw (h := 3) hw) (by decide) ?_
      have n2 : ¬ (0 ≤ w ∧ w ≤ 2) := fun h => by
        obtain ⟨c, hc, rfl⟩ := tIx (v := 3) (n := 3) rfl (by omega) h
        exact hw c (by omega) rfl
      have n3 : ¬ w = 3 := hw 3 (by omega)
      refine aw_iload_n (i := 2) (q := 61) dX2_ofLamp_60 rfl rfl rfl ?_
      refine aw_iconst (v := 4) (q := 62) dX2_ofLamp_61 rfl rfl ?_
      refine aw_icmp_ne (tgt := 81) (q := 65) dX2_ofLamp_62 (by decide) rfl (fun h4 => ?_) (fun h4 => ?_)
      · refine aw_bipush (v := (-2)) (q := 83) dX2_ofLamp_81 rfl rfl ?_
        exact aw_ireturn dX2_ofLamp_83 rfl (by first | rfl | exact zB_nar _) (by refine ⟨?_, rfl⟩; rw [e0, if_neg n2, if_neg n3, if_neg h4])
      · first | refine aw_aload_n (i := 0) (q := 66) dX2_ofLamp_65 rfl rfl rfl ?_ | refine aw_aloadN_n (i := 0) (q := 66) dX2_ofLamp_65 rfl rfl rfl ?_ | refine aw_aloadQ_n (i := 0) (q := 66) dX2_ofLamp_65 rfl rfl rfl ?_
        refine aw_getfield (q := 69) dX2_ofLamp_66 gf_X2_7_2 (by assumption) rfl rfl ?_
        refine aw_bipush (v := 50) (q := 71) dX2_ofLamp_69 rfl rfl ?_
        refine aw_iconst (v := 4) (q := 72) dX2_ofLamp_71 rfl rfl ?_
        refine aw_iload_n (i := 1) (q := 73) dX2_ofLamp_72 rfl rfl rfl ?_
        refine aw_imul (q := 74) dX2_ofLamp_73 rfl ?_
        refine aw_iadd (q := 75) dX2_ofLamp_74 rfl ?_
        refine aw_iconst (v := 3) (q := 76) dX2_ofLamp_75 rfl rfl ?_
        refine aw_iadd (q := 77) dX2_ofLamp_76 rfl ?_
        refine aw_iald (q := 78) (v := P 2 j 3) (50 + 4 * j + 3) dX2_ofLamp_77 (by assumption) (by first | assumption | (simp only [← nI_add, ← pk_mul]; rfl) | rfl) (by omega) (by omega) (hT.2.1.la (by omega) (by omega)) rfl ?_
        refine aw_goto (tgt := 83) dX2_ofLamp_78 (by decide) ?_
        exact aw_ireturn dX2_ofLamp_83 rfl (by first | rfl | exact zB_nar _) (by refine ⟨?_, rfl⟩; rw [e0, if_neg n2, if_neg n3, if_pos h4])
  · refine aw_iconst (v := (-1)) (q := 9) dX2_ofLamp_8 rfl rfl ?_
    exact aw_ireturn dX2_ofLamp_9 rfl (by first | rfl | exact zB_nar _) (by refine ⟨?_, rfl⟩; rw [tOfLamp, if_neg (zB_0 ha)])
theorem C2_show {k w : Int32} (hT : zTP G μ m lam K P) : Meets G 4 MX2_show [.ref m, .int k, .int w] μ (zPure (.int (tShow P k w)) μ) 0 0 := by
  have hm := hT.m
  obtain ⟨hn, hN⟩ := hT.2.2.s
  refine meets_of (by decide +kernel) (Nat.le_of_ble_eq_true rfl) ?_
  first | refine aw_aload_n (i := 0) (q := 1) dX2_show_0 rfl rfl rfl ?_ | refine aw_aloadN_n (i := 0) (q := 1) dX2_show_0 rfl rfl rfl ?_ | refine aw_aloadQ_n (i := 0) (q := 1) dX2_show_0 rfl rfl rfl ?_
  refine aw_iload_n (i := 1) (q := 2) dX2_show_1 rfl rfl rfl ?_
  refine aw_callV (q := 5) dX2_show_2 (C2_isShow hT) cv_X2_97_2 (by assumption) rfl rfl (by decide) (by decide) (by first | exact Nat.le_of_ble_eq_true rfl | simp [zcat_rf, Value.category]) rfl (zpk ?_)
  refine aw_if_ne (tgt := 10) (q := 8) dX2_show_5 (by decide) rfl (fun ha => ?_) (fun ha => ?_)
  · skip
    have ga := zB_1 ha
    obtain ⟨j, hj, rfl⟩ := tIx hn (by omega) ga
    refine aw_iload_n (i := 2) (q := 11) dX2_show_10 rfl rfl rfl ?_
    refine aw_iconst (v := 0) (q := 12) dX2_show_11 rfl rfl ?_
    refine aw_bipush (v := 9) (q := 14) dX2_show_12 rfl rfl ?_
    refine aw_callS (q := 17) dX2_show_14 (C2_in) cs_X2_49 rfl rfl (by decide) (by decide) (by first | exact Nat.le_of_ble_eq_true rfl | simp [zcat_rf, Value.category]) rfl (zpk ?_)
    refine aw_if_ne (tgt := 23) (q := 20) dX2_show_17 (by decide) rfl (fun hb => ?_) (fun hb => ?_)
    · skip
      have gb := zB_1 hb
      obtain ⟨c, hc, rfl⟩ := tIx (v := 10) (n := 10) rfl (by omega) gb
      refine aw_iload_n (i := 2) (q := 24) dX2_show_23 rfl rfl rfl ?_
      refine aw_bipush (v := 6) (q := 26) dX2_show_24 rfl rfl ?_
      refine aw_icmp_ge (tgt := 38) (q := 29) dX2_show_26 (by decide) rfl (fun h6 => ?_) (fun h6 => ?_)
      · refine aw_iload_n (i := 2) (q := 39) dX2_show_38 rfl rfl rfl ?_
        refine aw_bipush (v := 6) (q := 41) dX2_show_39 rfl rfl ?_
        refine aw_icmp_ne (tgt := 52) (q := 44) dX2_show_41 (by decide) rfl (fun h66 => ?_) (fun h66 => ?_)
        · refine aw_iload_n (i := 2) (q := 53) dX2_show_52 rfl rfl rfl ?_
          refine aw_bipush (v := 9) (q := 55) dX2_show_53 rfl rfl ?_
          refine aw_icmp_ne (tgt := 68) (q := 58) dX2_show_55 (by decide) rfl (fun h9 => ?_) (fun h9 => ?_)
          · first | refine aw_aload_n (i := 0) (q := 69) dX2_show_68 rfl rfl rfl ?_ | refine aw_aloadN_n (i := 0) (q := 69) dX2_show_68 rfl rfl rfl ?_ | refine aw_aloadQ_n (i := 0) (q := 69) dX2_show_68 rfl rfl rfl ?_
            refine aw_iload_n (i := 1) (q := 70) dX2_show_69 rfl rfl rfl ?_
            refine aw_iload_n (i := 2) (q := 71) dX2_show_70 rfl rfl rfl ?_
            refine aw_iconst (v := 2) (q := 72) dX2_show_71 rfl rfl ?_
            refine aw_isub (q := 73) dX2_show_72 rfl ?_
            have c2 : 2 ≤ c := by
              have := (nI_leI (a := 6) (b := c) (by omega) (by omega)).mp h6
              omega
            have e2 : nI c - 2 = nI (c - 2) := pk_sub (a := c) (b := 2) c2
            refine aw_callV (q := 76) dX2_show_73 (C2_sumOf (c := c - 2) hT e2 (by omega)) cv_X2_158_2 (by assumption) rfl rfl (by decide) (by decide) (by first | exact Nat.le_of_ble_eq_true rfl | simp [zcat_rf, Value.category]) rfl (zpk ?_)
            exact aw_ireturn dX2_show_76 rfl (by first | rfl | exact zB_nar _) (by refine ⟨?_, rfl⟩; rw [tShow, if_pos ga, if_pos gb, if_neg (Int32.not_lt.mpr h6), if_neg h66, if_neg h9, e2, nI_clamp (by omega)])
          · first | refine aw_aload_n (i := 0) (q := 59) dX2_show_58 rfl rfl rfl ?_ | refine aw_aloadN_n (i := 0) (q := 59) dX2_show_58 rfl rfl rfl ?_ | refine aw_aloadQ_n (i := 0) (q := 59) dX2_show_58 rfl rfl rfl ?_
            refine aw_iload_n (i := 1) (q := 60) dX2_show_59 rfl rfl rfl ?_
            refine aw_bipush (v := 6) (q := 62) dX2_show_60 rfl rfl ?_
            refine aw_callV (q := 65) dX2_show_62 (C2_ofShow (s := j) (c := 6) hT rfl rfl (by omega) (by omega)) cv_X2_75_2 (by assumption) rfl rfl (by decide) (by decide) (by first | exact Nat.le_of_ble_eq_true rfl | simp [zcat_rf, Value.category]) rfl (zpk ?_)
            refine aw_goto (tgt := 76) dX2_show_65 (by decide) ?_
            exact aw_ireturn dX2_show_76 rfl (by first | rfl | exact zB_nar _) (by refine ⟨?_, rfl⟩; rw [tShow, if_pos ga, if_pos gb, if_neg (Int32.not_lt.mpr h6), if_neg h66, if_pos h9, nI_clamp (by omega)])
        · first | refine aw_aload_n (i := 0) (q := 45) dX2_show_44 rfl rfl rfl ?_ | refine aw_aloadN_n (i := 0) (q := 45) dX2_show_44 rfl rfl rfl ?_ | refine aw_aloadQ_n (i := 0) (q := 45) dX2_show_44 rfl rfl rfl ?_
          refine aw_iload_n (i := 1) (q := 46) dX2_show_45 rfl rfl rfl ?_
          refine aw_callV (q := 49) dX2_show_46 (C2_takenOf hT) cv_X2_94_2 (by assumption) rfl rfl (by decide) (by decide) (by first | exact Nat.le_of_ble_eq_true rfl | simp [zcat_rf, Value.category]) rfl (zpk ?_)
          refine aw_goto (tgt := 76) dX2_show_49 (by decide) ?_
          exact aw_ireturn dX2_show_76 rfl (by first | rfl | exact zB_nar _) (by refine ⟨?_, rfl⟩; rw [tShow, if_pos ga, if_pos gb, if_neg (Int32.not_lt.mpr h6), if_pos h66])
      · first | refine aw_aload_n (i := 0) (q := 30) dX2_show_29 rfl rfl rfl ?_ | refine aw_aloadN_n (i := 0) (q := 30) dX2_show_29 rfl rfl rfl ?_ | refine aw_aloadQ_n (i := 0) (q := 30) dX2_show_29 rfl rfl rfl ?_
        refine aw_iload_n (i := 1) (q := 31) dX2_show_30 rfl rfl rfl ?_
        refine aw_iload_n (i := 2) (q := 32) dX2_show_31 rfl rfl rfl ?_
        have hlt : c < 6 := (nI_ltI (b := 6) (by omega) (by omega)).mp (Int32.not_le.mp h6)
        refine aw_callV (q := 35) dX2_show_32 (C2_ofShow (s := j) (c := c) hT rfl rfl (by omega) (by omega)) cv_X2_75_2 (by assumption) rfl rfl (by decide) (by decide) (by first | exact Nat.le_of_ble_eq_true rfl | simp [zcat_rf, Value.category]) rfl (zpk ?_)
        refine aw_goto (tgt := 76) dX2_show_35 (by decide) ?_
        exact aw_ireturn dX2_show_76 rfl (by first | rfl | exact zB_nar _) (by refine ⟨?_, rfl⟩; rw [tShow, if_pos ga, if_pos gb, if_pos (Int32.not_le.mp h6), nI_clamp (by omega), nI_clamp (by omega)])
    · refine aw_bipush (v := (-2)) (q := 22) dX2_show_20 rfl rfl ?_
      exact aw_ireturn dX2_show_22 rfl (by first | rfl | exact zB_nar _) (by refine ⟨?_, rfl⟩; rw [tShow, if_pos ga, if_neg (zB_0 hb)])
  · refine aw_iconst (v := (-1)) (q := 9) dX2_show_8 rfl rfl ?_
    exact aw_ireturn dX2_show_9 rfl (by first | rfl | exact zB_nar _) (by refine ⟨?_, rfl⟩; rw [tShow, if_neg (zB_0 ha)])
theorem C2_free {k w : Int32} (hT : zTP G μ m lam K P) : Meets G 3 MX2_free [.ref m, .int k, .int w] μ (zPure (.int (tFreeC P k w)) μ) 0 0 := by
  have hm := hT.m
  refine meets_of (by decide +kernel) (Nat.le_of_ble_eq_true rfl) ?_
  first | refine aw_aload_n (i := 0) (q := 1) dX2_free_0 rfl rfl rfl ?_ | refine aw_aloadN_n (i := 0) (q := 1) dX2_free_0 rfl rfl rfl ?_ | refine aw_aloadQ_n (i := 0) (q := 1) dX2_free_0 rfl rfl rfl ?_
  refine aw_iload_n (i := 1) (q := 2) dX2_free_1 rfl rfl rfl ?_
  refine aw_callV (q := 5) dX2_free_2 (C2_isShow hT) cv_X2_97_2 (by assumption) rfl rfl (by decide) (by decide) (by first | exact Nat.le_of_ble_eq_true rfl | simp [zcat_rf, Value.category]) rfl (zpk ?_)
  refine aw_if_ne (tgt := 10) (q := 8) dX2_free_5 (by decide) rfl (fun ha => ?_) (fun ha => ?_)
  · refine aw_iload_n (i := 2) (q := 11) dX2_free_10 rfl rfl rfl ?_
    refine aw_iconst (v := 0) (q := 12) dX2_free_11 rfl rfl ?_
    refine aw_bipush (v := 7) (q := 14) dX2_free_12 rfl rfl ?_
    refine aw_callS (q := 17) dX2_free_14 (C2_in) cs_X2_49 rfl rfl (by decide) (by decide) (by first | exact Nat.le_of_ble_eq_true rfl | simp [zcat_rf, Value.category]) rfl (zpk ?_)
    refine aw_if_eq (tgt := 29) (q := 20) dX2_free_17 (by decide) rfl (fun hb => ?_) (fun hb => ?_)
    · refine aw_bipush (v := (-2)) (q := 31) dX2_free_29 rfl rfl ?_
      exact aw_ireturn dX2_free_31 rfl (by first | rfl | exact zB_nar _) (by refine ⟨?_, rfl⟩; rw [tFreeC, if_pos (zB_1 ha), if_neg (zB_0 hb)])
    · skip
      have gb := zB_1 hb
      obtain ⟨c, hc, rfl⟩ := tIx (v := 8) (n := 8) rfl (by omega) gb
      first | refine aw_aload_n (i := 0) (q := 21) dX2_free_20 rfl rfl rfl ?_ | refine aw_aloadN_n (i := 0) (q := 21) dX2_free_20 rfl rfl rfl ?_ | refine aw_aloadQ_n (i := 0) (q := 21) dX2_free_20 rfl rfl rfl ?_
      refine aw_iload_n (i := 1) (q := 22) dX2_free_21 rfl rfl rfl ?_
      refine aw_iload_n (i := 2) (q := 23) dX2_free_22 rfl rfl rfl ?_
      refine aw_callV (q := 26) dX2_free_23 (C2_freeIn hT rfl hc) cv_X2_91_2 (by assumption) rfl rfl (by decide) (by decide) (by first | exact Nat.le_of_ble_eq_true rfl | simp [zcat_rf, Value.category]) rfl (zpk ?_)
      refine aw_goto (tgt := 31) dX2_free_26 (by decide) ?_
      exact aw_ireturn dX2_free_31 rfl (by first | rfl | exact zB_nar _) (by refine ⟨?_, rfl⟩; rw [tFreeC, if_pos (zB_1 ha), if_pos gb, nI_clamp (by omega)])
  · refine aw_iconst (v := (-1)) (q := 9) dX2_free_8 rfl rfl ?_
    exact aw_ireturn dX2_free_9 rfl (by first | rfl | exact zB_nar _) (by refine ⟨?_, rfl⟩; rw [tFreeC, if_neg (zB_0 ha)])
theorem C2_booking {k w : Int32} (hT : zTP G μ m lam K P) : Meets G 3 MX2_booking [.ref m, .int k, .int w] μ (zPure (.int (tBooking P k w)) μ) 0 0 := by
  have hm := hT.m
  obtain ⟨hn, hN⟩ := hT.2.2.b
  refine meets_of (by decide +kernel) (Nat.le_of_ble_eq_true rfl) ?_
  first | refine aw_aload_n (i := 0) (q := 1) dX2_booking_0 rfl rfl rfl ?_ | refine aw_aloadN_n (i := 0) (q := 1) dX2_booking_0 rfl rfl rfl ?_ | refine aw_aloadQ_n (i := 0) (q := 1) dX2_booking_0 rfl rfl rfl ?_
  refine aw_iload_n (i := 1) (q := 2) dX2_booking_1 rfl rfl rfl ?_
  refine aw_callV (q := 5) dX2_booking_2 (C2_isBooking hT) cv_X2_110_2 (by assumption) rfl rfl (by decide) (by decide) (by first | exact Nat.le_of_ble_eq_true rfl | simp [zcat_rf, Value.category]) rfl (zpk ?_)
  refine aw_if_ne (tgt := 10) (q := 8) dX2_booking_5 (by decide) rfl (fun ha => ?_) (fun ha => ?_)
  · skip
    have ga := zB_1 ha
    obtain ⟨j, hj, rfl⟩ := tIx hn (by omega) ga
    refine aw_iload_n (i := 2) (q := 11) dX2_booking_10 rfl rfl rfl ?_
    refine aw_iconst (v := 0) (q := 12) dX2_booking_11 rfl rfl ?_
    refine aw_bipush (v := 6) (q := 14) dX2_booking_12 rfl rfl ?_
    refine aw_callS (q := 17) dX2_booking_14 (C2_in) cs_X2_49 rfl rfl (by decide) (by decide) (by first | exact Nat.le_of_ble_eq_true rfl | simp [zcat_rf, Value.category]) rfl (zpk ?_)
    refine aw_if_eq (tgt := 29) (q := 20) dX2_booking_17 (by decide) rfl (fun hb => ?_) (fun hb => ?_)
    · refine aw_iload_n (i := 2) (q := 30) dX2_booking_29 rfl rfl rfl ?_
      refine aw_bipush (v := 10) (q := 32) dX2_booking_30 rfl rfl ?_
      refine aw_bipush (v := 17) (q := 34) dX2_booking_32 rfl rfl ?_
      refine aw_callS (q := 37) dX2_booking_34 (C2_in) cs_X2_49 rfl rfl (by decide) (by decide) (by first | exact Nat.le_of_ble_eq_true rfl | simp [zcat_rf, Value.category]) rfl (zpk ?_)
      refine aw_if_eq (tgt := 51) (q := 40) dX2_booking_37 (by decide) rfl (fun hc => ?_) (fun hc => ?_)
      · refine aw_bipush (v := (-2)) (q := 53) dX2_booking_51 rfl rfl ?_
        exact aw_ireturn dX2_booking_53 rfl (by first | rfl | exact zB_nar _) (by refine ⟨?_, rfl⟩; rw [tBooking, if_pos ga, if_neg (zB_0 hb), if_neg (zB_0 hc)])
      · skip
        obtain ⟨c, c1, c2, rfl⟩ := zOf (A := 10) (B := 17) rfl rfl (by omega) (by omega) (zB_1 hc)
        have e2 : nI c - 2 = nI (c - 2) := pk_sub (a := c) (b := 2) (by omega)
        first | refine aw_aload_n (i := 0) (q := 41) dX2_booking_40 rfl rfl rfl ?_ | refine aw_aloadN_n (i := 0) (q := 41) dX2_booking_40 rfl rfl rfl ?_ | refine aw_aloadQ_n (i := 0) (q := 41) dX2_booking_40 rfl rfl rfl ?_
        refine aw_iload_n (i := 1) (q := 42) dX2_booking_41 rfl rfl rfl ?_
        refine aw_iload_n (i := 2) (q := 43) dX2_booking_42 rfl rfl rfl ?_
        refine aw_iconst (v := 2) (q := 44) dX2_booking_43 rfl rfl ?_
        refine aw_isub (q := 45) dX2_booking_44 rfl ?_
        refine aw_callV (q := 48) dX2_booking_45 (C2_ofBooking (s := j) (c := c - 2) hT rfl e2 (by omega) (by omega)) cv_X2_88_2 (by assumption) rfl rfl (by decide) (by decide) (by first | exact Nat.le_of_ble_eq_true rfl | simp [zcat_rf, Value.category]) rfl (zpk ?_)
        refine aw_goto (tgt := 53) dX2_booking_48 (by decide) ?_
        exact aw_ireturn dX2_booking_53 rfl (by first | rfl | exact zB_nar _) (by refine ⟨?_, rfl⟩; rw [tBooking, if_pos ga, if_neg (zB_0 hb), if_pos (zB_1 hc), nI_clamp (by omega), nI_clamp (by omega)])
    · skip
      have gb := zB_1 hb
      obtain ⟨c, hc, rfl⟩ := tIx (v := 7) (n := 7) rfl (by omega) gb
      first | refine aw_aload_n (i := 0) (q := 21) dX2_booking_20 rfl rfl rfl ?_ | refine aw_aloadN_n (i := 0) (q := 21) dX2_booking_20 rfl rfl rfl ?_ | refine aw_aloadQ_n (i := 0) (q := 21) dX2_booking_20 rfl rfl rfl ?_
      refine aw_iload_n (i := 1) (q := 22) dX2_booking_21 rfl rfl rfl ?_
      refine aw_iload_n (i := 2) (q := 23) dX2_booking_22 rfl rfl rfl ?_
      refine aw_callV (q := 26) dX2_booking_23 (C2_ofBooking (s := j) (c := c) hT rfl rfl (by omega) (by omega)) cv_X2_88_2 (by assumption) rfl rfl (by decide) (by decide) (by first | exact Nat.le_of_ble_eq_true rfl | simp [zcat_rf, Value.category]) rfl (zpk ?_)
      refine aw_goto (tgt := 53) dX2_booking_26 (by decide) ?_
      exact aw_ireturn dX2_booking_53 rfl (by first | rfl | exact zB_nar _) (by refine ⟨?_, rfl⟩; rw [tBooking, if_pos ga, if_pos gb, nI_clamp (by omega), nI_clamp (by omega)])
  · refine aw_iconst (v := (-1)) (q := 9) dX2_booking_8 rfl rfl ?_
    exact aw_ireturn dX2_booking_9 rfl (by first | rfl | exact zB_nar _) (by refine ⟨?_, rfl⟩; rw [tBooking, if_neg (zB_0 ha)])
theorem C2_ofPromise {k w : Int32} (hT : zTP G μ m lam K P) (hB : tBkOk P) : Meets G 3 MX2_ofPromise [.ref m, .int k, .int w] μ (zPure (.int (tOfProm P k w)) μ) 0 0 := by
  have hm := hT.m
  have h1 := hT.a1
  obtain ⟨hn, hN⟩ := hT.2.2.p
  refine meets_of (by decide +kernel) (Nat.le_of_ble_eq_true rfl) ?_
  first | refine aw_aload_n (i := 0) (q := 1) dX2_ofPromise_0 rfl rfl rfl ?_ | refine aw_aloadN_n (i := 0) (q := 1) dX2_ofPromise_0 rfl rfl rfl ?_ | refine aw_aloadQ_n (i := 0) (q := 1) dX2_ofPromise_0 rfl rfl rfl ?_
  refine aw_iload_n (i := 1) (q := 2) dX2_ofPromise_1 rfl rfl rfl ?_
  refine aw_callV (q := 5) dX2_ofPromise_2 (C2_isPromise hT) cv_X2_161_2 (by assumption) rfl rfl (by decide) (by decide) (by first | exact Nat.le_of_ble_eq_true rfl | simp [zcat_rf, Value.category]) rfl (zpk ?_)
  refine aw_if_ne (tgt := 10) (q := 8) dX2_ofPromise_5 (by decide) rfl (fun ha => ?_) (fun ha => ?_)
  · skip
    have ga := zB_1 ha
    obtain ⟨j, hj, rfl⟩ := tIx hn (by omega) ga
    refine aw_iload_n (i := 2) (q := 11) dX2_ofPromise_10 rfl rfl rfl ?_
    refine aw_iconst (v := 0) (q := 12) dX2_ofPromise_11 rfl rfl ?_
    refine aw_bipush (v := 9) (q := 14) dX2_ofPromise_12 rfl rfl ?_
    refine aw_callS (q := 17) dX2_ofPromise_14 (C2_in) cs_X2_49 rfl rfl (by decide) (by decide) (by first | exact Nat.le_of_ble_eq_true rfl | simp [zcat_rf, Value.category]) rfl (zpk ?_)
    refine aw_if_eq (tgt := 38) (q := 20) dX2_ofPromise_17 (by decide) rfl (fun hb => ?_) (fun hb => ?_)
    · refine aw_iload_n (i := 2) (q := 39) dX2_ofPromise_38 rfl rfl rfl ?_
      refine aw_bipush (v := 10) (q := 41) dX2_ofPromise_39 rfl rfl ?_
      refine aw_icmp_ne (tgt := 52) (q := 44) dX2_ofPromise_41 (by decide) rfl (fun hc => ?_) (fun hc => ?_)
      · refine aw_bipush (v := (-2)) (q := 54) dX2_ofPromise_52 rfl rfl ?_
        exact aw_ireturn dX2_ofPromise_54 rfl (by first | rfl | exact zB_nar _) (by refine ⟨?_, rfl⟩; rw [tOfProm, if_pos ga, if_neg (zB_0 hb), if_neg hc])
      · first | refine aw_aload_n (i := 0) (q := 45) dX2_ofPromise_44 rfl rfl rfl ?_ | refine aw_aloadN_n (i := 0) (q := 45) dX2_ofPromise_44 rfl rfl rfl ?_ | refine aw_aloadQ_n (i := 0) (q := 45) dX2_ofPromise_44 rfl rfl rfl ?_
        refine aw_iload_n (i := 1) (q := 46) dX2_ofPromise_45 rfl rfl rfl ?_
        refine aw_callV (q := 49) dX2_ofPromise_46 (C2_wouldBeSeen (p := j) hT rfl (by omega) hB) cv_X2_164_2 (by assumption) rfl rfl (by decide) (by decide) (by first | exact Nat.le_of_ble_eq_true rfl | simp [zcat_rf, Value.category]) rfl (zpk ?_)
        refine aw_goto (tgt := 54) dX2_ofPromise_49 (by decide) ?_
        exact aw_ireturn dX2_ofPromise_54 rfl (by first | rfl | exact zB_nar _) (by refine ⟨?_, rfl⟩; rw [tOfProm, if_pos ga, if_neg (zB_0 hb), if_pos hc, nI_clamp (by omega)])
    · skip
      have gb := zB_1 hb
      obtain ⟨c, hc, rfl⟩ := tIx (v := 10) (n := 10) rfl (by omega) gb
      first | refine aw_aload_n (i := 0) (q := 21) dX2_ofPromise_20 rfl rfl rfl ?_ | refine aw_aloadN_n (i := 0) (q := 21) dX2_ofPromise_20 rfl rfl rfl ?_ | refine aw_aloadQ_n (i := 0) (q := 21) dX2_ofPromise_20 rfl rfl rfl ?_
      refine aw_getfield (q := 24) dX2_ofPromise_21 gf_X2_7_2 (by assumption) rfl rfl ?_
      refine aw_sipush (v := 1860) (q := 27) dX2_ofPromise_24 rfl rfl ?_
      refine aw_bipush (v := 10) (q := 29) dX2_ofPromise_27 rfl rfl ?_
      refine aw_iload_n (i := 1) (q := 30) dX2_ofPromise_29 rfl rfl rfl ?_
      refine aw_imul (q := 31) dX2_ofPromise_30 rfl ?_
      refine aw_iadd (q := 32) dX2_ofPromise_31 rfl ?_
      refine aw_iload_n (i := 2) (q := 33) dX2_ofPromise_32 rfl rfl rfl ?_
      refine aw_iadd (q := 34) dX2_ofPromise_33 rfl ?_
      refine aw_iald (q := 35) (v := P 6 j c) (1860 + 10 * j + c) dX2_ofPromise_34 (by assumption) (by first | assumption | (simp only [← nI_add, ← pk_mul]; rfl) | rfl) (by omega) (by omega) (hT.2.1.pr (by omega) (by omega)) rfl ?_
      refine aw_goto (tgt := 54) dX2_ofPromise_35 (by decide) ?_
      exact aw_ireturn dX2_ofPromise_54 rfl (by first | rfl | exact zB_nar _) (by refine ⟨?_, rfl⟩; rw [tOfProm, if_pos ga, if_pos gb, nI_clamp (by omega), nI_clamp (by omega)])
  · refine aw_iconst (v := (-1)) (q := 9) dX2_ofPromise_8 rfl rfl ?_
    exact aw_ireturn dX2_ofPromise_9 rfl (by first | rfl | exact zB_nar _) (by refine ⟨?_, rfl⟩; rw [tOfProm, if_neg (zB_0 ha)])
theorem C2_reason {k : Int32} (hT : zTP G μ m lam K P) : Meets G 3 MX2_reason [.ref m, .int k] μ (zPure (.int (tReason P k)) μ) 0 0 := by
  have hm := hT.m
  have h1 := hT.a1
  obtain ⟨hn, hN⟩ := hT.2.2.p
  refine meets_of (by decide +kernel) (Nat.le_of_ble_eq_true rfl) ?_
  first | refine aw_aload_n (i := 0) (q := 1) dX2_reason_0 rfl rfl rfl ?_ | refine aw_aloadN_n (i := 0) (q := 1) dX2_reason_0 rfl rfl rfl ?_ | refine aw_aloadQ_n (i := 0) (q := 1) dX2_reason_0 rfl rfl rfl ?_
  refine aw_iload_n (i := 1) (q := 2) dX2_reason_1 rfl rfl rfl ?_
  refine aw_callV (q := 5) dX2_reason_2 (C2_isPromise hT) cv_X2_161_2 (by assumption) rfl rfl (by decide) (by decide) (by first | exact Nat.le_of_ble_eq_true rfl | simp [zcat_rf, Value.category]) rfl (zpk ?_)
  refine aw_if_ne (tgt := 10) (q := 8) dX2_reason_5 (by decide) rfl (fun ha => ?_) (fun ha => ?_)
  · skip
    have ga := zB_1 ha
    obtain ⟨j, hj, rfl⟩ := tIx hn (by omega) ga
    have e0 : tReason P (nI j) = if P 6 j 4 = 2 then (if tSumR (fun k => P 6 j (5 + k)) 5 < P 6 j 2 then 1 else nI (tBestK (P 6 j) 5) - 4) else -6 := by rw [tReason, if_pos ga, nI_clamp (by omega)]
    refine aw_sipush (v := 1860) (q := 13) dX2_reason_10 rfl rfl ?_
    refine aw_bipush (v := 10) (q := 15) dX2_reason_13 rfl rfl ?_
    refine aw_iload_n (i := 1) (q := 16) dX2_reason_15 rfl rfl rfl ?_
    refine aw_imul (q := 17) dX2_reason_16 rfl ?_
    refine aw_iadd (q := 18) dX2_reason_17 rfl ?_
    refine aw_istore_n (i := 2) (q := 19) dX2_reason_18 rfl (by decide) rfl ?_
    first | refine aw_aload_n (i := 0) (q := 20) dX2_reason_19 rfl rfl rfl ?_ | refine aw_aloadN_n (i := 0) (q := 20) dX2_reason_19 rfl rfl rfl ?_ | refine aw_aloadQ_n (i := 0) (q := 20) dX2_reason_19 rfl rfl rfl ?_
    refine aw_getfield (q := 23) dX2_reason_20 gf_X2_7_2 (by assumption) rfl rfl ?_
    refine aw_iload_n (i := 2) (q := 24) dX2_reason_23 rfl rfl rfl ?_
    refine aw_iconst (v := 4) (q := 25) dX2_reason_24 rfl rfl ?_
    refine aw_iadd (q := 26) dX2_reason_25 rfl ?_
    refine aw_iald (q := 27) (v := P 6 j 4) (1860 + 10 * j + 4) dX2_reason_26 (by assumption) (by first | assumption | (simp only [← nI_add, ← pk_mul]; rfl) | rfl) (by omega) (by omega) (hT.2.1.pr (by omega) (by omega)) rfl ?_
    refine aw_iconst (v := 2) (q := 28) dX2_reason_27 rfl rfl ?_
    refine aw_icmp_eq (tgt := 34) (q := 31) dX2_reason_28 (by decide) rfl (fun hb => ?_) (fun hb => ?_)
    · refine aw_iconst (v := 0) (q := 35) dX2_reason_34 rfl rfl ?_
      refine aw_istore_n (i := 3) (q := 36) dX2_reason_35 rfl (by decide) rfl ?_
      refine aw_bipush (v := 6) (q := 38) dX2_reason_36 rfl rfl ?_
      refine aw_istore (q := 40) dX2_reason_38 (by decide) rfl ?_
      refine aw_iconst (v := 5) (q := 41) dX2_reason_40 rfl rfl ?_
      refine aw_istore (q := 43) dX2_reason_41 (by decide) rfl ?_
      have loop : ∀ n e, e + n = 5 → AW G 3 MX2_reason (zPure (.int (tReason P (nI j))) μ) 0 0 43 [(0, .ref m), (1, .int (nI j)), (2, .int (1860 + 10 * nI j)), (3, .int (tSumR (fun k => P 6 j (5 + k)) e)), (4, .int (nI (tBestK (P 6 j) e))), (5, .int (nI (5 + e)))] [] μ := by
        intro n
        induction n with
        | zero =>
          intro e he
          have e5 : e = 5 := by omega
          subst e5
          rw [e0, if_pos hb]
          generalize tSumR (fun k => P 6 j (5 + k)) 5 = q1
          generalize tBestK (P 6 j) 5 = q2
          refine aw_iload (q := 45) dX2_reason_43 rfl rfl ?_
          refine aw_bipush (v := 10) (q := 47) dX2_reason_45 rfl rfl ?_
          refine aw_icmp_ge (tgt := 104) (q := 50) dX2_reason_47 (by decide) rfl (fun _ => ?_) (fun hc => absurd (nI_le (a := 10) (by omega) (by omega)) hc)
          refine aw_iload_n (i := 3) (q := 105) dX2_reason_104 rfl rfl rfl ?_
          first | refine aw_aload_n (i := 0) (q := 106) dX2_reason_105 rfl rfl rfl ?_ | refine aw_aloadN_n (i := 0) (q := 106) dX2_reason_105 rfl rfl rfl ?_ | refine aw_aloadQ_n (i := 0) (q := 106) dX2_reason_105 rfl rfl rfl ?_
          refine aw_getfield (q := 109) dX2_reason_106 gf_X2_7_2 (by assumption) rfl rfl ?_
          refine aw_iload_n (i := 2) (q := 110) dX2_reason_109 rfl rfl rfl ?_
          refine aw_iconst (v := 2) (q := 111) dX2_reason_110 rfl rfl ?_
          refine aw_iadd (q := 112) dX2_reason_111 rfl ?_
          refine aw_iald (q := 113) (v := P 6 j 2) (1860 + 10 * j + 2) dX2_reason_112 (by assumption) (by first | assumption | (simp only [← nI_add, ← pk_mul]; rfl) | rfl) (by omega) (by omega) (hT.2.1.pr (by omega) (by omega)) rfl ?_
          refine aw_icmp_ge (tgt := 120) (q := 116) dX2_reason_113 (by decide) rfl (fun hc => ?_) (fun hc => ?_)
          · refine aw_iload (q := 122) dX2_reason_120 rfl rfl ?_
            refine aw_iconst (v := 4) (q := 123) dX2_reason_122 rfl rfl ?_
            refine aw_isub (q := 124) dX2_reason_123 rfl ?_
            exact aw_ireturn dX2_reason_124 rfl (by first | rfl | exact zB_nar _) (by refine ⟨?_, rfl⟩; rw [if_neg (Int32.not_lt.mpr hc)])
          · refine aw_iconst (v := 1) (q := 117) dX2_reason_116 rfl rfl ?_
            refine aw_goto (tgt := 124) dX2_reason_117 (by decide) ?_
            exact aw_ireturn dX2_reason_124 rfl (by first | rfl | exact zB_nar _) (by refine ⟨?_, rfl⟩; rw [if_pos (Int32.not_le.mp hc)])
        | succ n ih =>
          intro e he
          have hb10 := tBestK_lt (P 6 j) e (by omega)
          have fin : ∀ b, b = tBestK (P 6 j) (e + 1) → AW G 3 MX2_reason (zPure (.int (tReason P (nI j))) μ) 0 0 96 [(0, .ref m), (1, .int (nI j)), (2, .int (1860 + 10 * nI j)), (3, .int (tSumR (fun k => P 6 j (5 + k)) (e + 1))), (5, .int (nI (5 + e)))] [.int (nI b)] μ := by
            intro b hb
            subst hb
            refine aw_istore (q := 98) dX2_reason_96 (by decide) rfl ?_
            refine aw_iinc (q := 101) dX2_reason_98 rfl (by first | exact nI_1 _ | rfl) (by decide) rfl ?_
            refine aw_goto (tgt := 43) dX2_reason_101 (by decide) ?_
            exact aw_locals (by exact ⟨rfl, rfl, rfl, rfl, rfl, rfl, trivial⟩) (ih (e + 1) (by omega))
          have hno : ¬ (0 < e ∧ P 6 j (tBestK (P 6 j) e) < P 6 j (5 + e)) → tBestK (P 6 j) e = tBestK (P 6 j) (e + 1) := fun h => Eq.symm (if_neg h)
          have hyes : (0 < e ∧ P 6 j (tBestK (P 6 j) e) < P 6 j (5 + e)) → 5 + e = tBestK (P 6 j) (e + 1) := fun h => Eq.symm (if_pos h)
          refine aw_iload (q := 45) dX2_reason_43 rfl rfl ?_
          refine aw_bipush (v := 10) (q := 47) dX2_reason_45 rfl rfl ?_
          refine aw_icmp_ge (tgt := 104) (q := 50) dX2_reason_47 (by decide) rfl (fun hc => absurd hc (nI_ge (b := 10) (a := 5 + e) (by omega) (by omega))) (fun _ => ?_)
          refine aw_iload_n (i := 3) (q := 51) dX2_reason_50 rfl rfl rfl ?_
          first | refine aw_aload_n (i := 0) (q := 52) dX2_reason_51 rfl rfl rfl ?_ | refine aw_aloadN_n (i := 0) (q := 52) dX2_reason_51 rfl rfl rfl ?_ | refine aw_aloadQ_n (i := 0) (q := 52) dX2_reason_51 rfl rfl rfl ?_
          refine aw_getfield (q := 55) dX2_reason_52 gf_X2_7_2 (by assumption) rfl rfl ?_
          refine aw_iload_n (i := 2) (q := 56) dX2_reason_55 rfl rfl rfl ?_
          refine aw_iload (q := 58) dX2_reason_56 rfl rfl ?_
          refine aw_iadd (q := 59) dX2_reason_58 rfl ?_
          refine aw_iald (q := 60) (v := P 6 j (5 + e)) (1860 + 10 * j + (5 + e)) dX2_reason_59 (by assumption) (by first | assumption | (simp only [← nI_add, ← pk_mul]; rfl) | rfl) (by omega) (by omega) (hT.2.1.pr (by omega) (by omega)) rfl ?_
          refine aw_iadd (q := 61) dX2_reason_60 rfl ?_
          refine aw_istore_n (i := 3) (q := 62) dX2_reason_61 rfl (by decide) rfl ?_
          refine aw_iload (q := 64) dX2_reason_62 rfl rfl ?_
          refine aw_iconst (v := 5) (q := 65) dX2_reason_64 rfl rfl ?_
          refine aw_icmp_le (tgt := 94) (q := 68) dX2_reason_65 (by decide) rfl (fun hc => ?_) (fun hc => ?_)
          · refine aw_iload (q := 96) dX2_reason_94 rfl rfl ?_
            have e00 : ¬ 0 < e := fun h => nI_ge (a := 5) (b := 5 + e) (by omega) (by omega) hc
            exact aw_locals (by exact ⟨rfl, rfl, rfl, rfl, rfl, trivial⟩) (fin _ (hno (fun h => e00 h.1)))
          · first | refine aw_aload_n (i := 0) (q := 69) dX2_reason_68 rfl rfl rfl ?_ | refine aw_aloadN_n (i := 0) (q := 69) dX2_reason_68 rfl rfl rfl ?_ | refine aw_aloadQ_n (i := 0) (q := 69) dX2_reason_68 rfl rfl rfl ?_
            refine aw_getfield (q := 72) dX2_reason_69 gf_X2_7_2 (by assumption) rfl rfl ?_
            refine aw_iload_n (i := 2) (q := 73) dX2_reason_72 rfl rfl rfl ?_
            refine aw_iload (q := 75) dX2_reason_73 rfl rfl ?_
            refine aw_iadd (q := 76) dX2_reason_75 rfl ?_
            have e00 : 0 < e := by
              have := (nI_ltI (a := 5) (b := 5 + e) (by omega) (by omega)).mp (Int32.not_le.mp hc)
              omega
            refine aw_iald (q := 77) (v := P 6 j (5 + e)) (1860 + 10 * j + (5 + e)) dX2_reason_76 (by assumption) (by first | assumption | (simp only [← nI_add, ← pk_mul]; rfl) | rfl) (by omega) (by omega) (hT.2.1.pr (by omega) (by omega)) rfl ?_
            first | refine aw_aload_n (i := 0) (q := 78) dX2_reason_77 rfl rfl rfl ?_ | refine aw_aloadN_n (i := 0) (q := 78) dX2_reason_77 rfl rfl rfl ?_ | refine aw_aloadQ_n (i := 0) (q := 78) dX2_reason_77 rfl rfl rfl ?_
            refine aw_getfield (q := 81) dX2_reason_78 gf_X2_7_2 (by assumption) rfl rfl ?_
            refine aw_iload_n (i := 2) (q := 82) dX2_reason_81 rfl rfl rfl ?_
            refine aw_iload (q := 84) dX2_reason_82 rfl rfl ?_
            refine aw_iadd (q := 85) dX2_reason_84 rfl ?_
            refine aw_iald (q := 86) (v := P 6 j (tBestK (P 6 j) e)) (1860 + 10 * j + tBestK (P 6 j) e) dX2_reason_85 (by assumption) (by first | assumption | (simp only [← nI_add, ← pk_mul]; rfl) | rfl) (by omega) (by omega) (hT.2.1.pr (by omega) (by omega)) rfl ?_
            refine aw_icmp_le (tgt := 94) (q := 89) dX2_reason_86 (by decide) rfl (fun hd => ?_) (fun hd => ?_)
            · refine aw_iload (q := 96) dX2_reason_94 rfl rfl ?_
              exact aw_locals (by exact ⟨rfl, rfl, rfl, rfl, rfl, trivial⟩) (fin _ (hno (fun h => absurd h.2 (Int32.not_lt.mpr hd))))
            · refine aw_iload (q := 91) dX2_reason_89 rfl rfl ?_
              refine aw_goto (tgt := 96) dX2_reason_91 (by decide) ?_
              exact aw_locals (by exact ⟨rfl, rfl, rfl, rfl, rfl, trivial⟩) (fin (5 + e) (hyes ⟨e00, Int32.not_le.mp hd⟩))
      exact aw_locals (by exact ⟨rfl, rfl, rfl, rfl, rfl, rfl, trivial⟩) (loop 5 0 (by omega))
    · refine aw_bipush (v := (-6)) (q := 33) dX2_reason_31 rfl rfl ?_
      exact aw_ireturn dX2_reason_33 rfl (by first | rfl | exact zB_nar _) (by refine ⟨?_, rfl⟩; rw [e0, if_neg hb])
  · refine aw_iconst (v := (-1)) (q := 9) dX2_reason_8 rfl rfl ?_
    exact aw_ireturn dX2_reason_9 rfl (by first | rfl | exact zB_nar _) (by refine ⟨?_, rfl⟩; rw [tReason, if_neg (zB_0 ha)])
theorem C2_at {d s : Int32} (hT : zTP G μ m lam K P) : Meets G 3 MX2_at [.ref m, .int d, .int s] μ (zPure (.int (tAtC P d s)) μ) 0 0 := by
  have hm := hT.m
  refine meets_of (by decide +kernel) (Nat.le_of_ble_eq_true rfl) ?_
  refine aw_iload_n (i := 1) (q := 1) dX2_at_0 rfl rfl rfl ?_
  refine aw_iconst (v := 0) (q := 2) dX2_at_1 rfl rfl ?_
  refine aw_sipush (v := 999) (q := 5) dX2_at_2 rfl rfl ?_
  refine aw_callS (q := 8) dX2_at_5 (C2_in) cs_X2_49 rfl rfl (by decide) (by decide) (by first | exact Nat.le_of_ble_eq_true rfl | simp [zcat_rf, Value.category]) rfl (zpk ?_)
  refine aw_if_eq (tgt := 20) (q := 11) dX2_at_8 (by decide) rfl (fun ha => ?_) (fun ha => ?_)
  · refine aw_bipush (v := (-2)) (q := 22) dX2_at_20 rfl rfl ?_
    exact aw_ireturn dX2_at_22 rfl (by first | rfl | exact zB_nar _) (by refine ⟨?_, rfl⟩; rw [tAtC, if_neg (fun h => zB_0 ha h.1)])
  · refine aw_iload_n (i := 2) (q := 12) dX2_at_11 rfl rfl rfl ?_
    refine aw_iconst (v := 0) (q := 13) dX2_at_12 rfl rfl ?_
    refine aw_iconst (v := 5) (q := 14) dX2_at_13 rfl rfl ?_
    refine aw_callS (q := 17) dX2_at_14 (C2_in) cs_X2_49 rfl rfl (by decide) (by decide) (by first | exact Nat.le_of_ble_eq_true rfl | simp [zcat_rf, Value.category]) rfl (zpk ?_)
    refine aw_if_ne (tgt := 23) (q := 20) dX2_at_17 (by decide) rfl (fun hb => ?_) (fun hb => ?_)
    · first | refine aw_aload_n (i := 0) (q := 24) dX2_at_23 rfl rfl rfl ?_ | refine aw_aloadN_n (i := 0) (q := 24) dX2_at_23 rfl rfl rfl ?_ | refine aw_aloadQ_n (i := 0) (q := 24) dX2_at_23 rfl rfl rfl ?_
      refine aw_iload_n (i := 1) (q := 25) dX2_at_24 rfl rfl rfl ?_
      refine aw_iload_n (i := 2) (q := 26) dX2_at_25 rfl rfl rfl ?_
      refine aw_callV (q := 29) dX2_at_26 (C2_eventAt hT) cv_X2_78_2 (by assumption) rfl rfl (by decide) (by decide) (by first | exact Nat.le_of_ble_eq_true rfl | simp [zcat_rf, Value.category]) rfl (zpk ?_)
      refine aw_istore_n (i := 3) (q := 30) dX2_at_29 rfl (by decide) rfl ?_
      refine aw_iload_n (i := 3) (q := 31) dX2_at_30 rfl rfl rfl ?_
      refine aw_if_lt (tgt := 41) (q := 34) dX2_at_31 (by decide) rfl (fun hc => ?_) (fun hc => ?_)
      · first | refine aw_aload_n (i := 0) (q := 42) dX2_at_41 rfl rfl rfl ?_ | refine aw_aloadN_n (i := 0) (q := 42) dX2_at_41 rfl rfl rfl ?_ | refine aw_aloadQ_n (i := 0) (q := 42) dX2_at_41 rfl rfl rfl ?_
        refine aw_iload_n (i := 1) (q := 43) dX2_at_42 rfl rfl rfl ?_
        refine aw_iload_n (i := 2) (q := 44) dX2_at_43 rfl rfl rfl ?_
        refine aw_callV (q := 47) dX2_at_44 (C2_plannedAt hT) cv_X2_81_2 (by assumption) rfl rfl (by decide) (by decide) (by first | exact Nat.le_of_ble_eq_true rfl | simp [zcat_rf, Value.category]) rfl (zpk ?_)
        exact aw_ireturn dX2_at_47 rfl (by first | rfl | exact zB_nar _) (by refine ⟨?_, rfl⟩; rw [tAtC, if_pos ⟨zB_1 ha, zB_1 hb⟩, if_neg (Int32.not_le.mpr hc)])
      · refine aw_bipush (v := 100) (q := 36) dX2_at_34 rfl rfl ?_
        refine aw_iload_n (i := 3) (q := 37) dX2_at_36 rfl rfl rfl ?_
        refine aw_iadd (q := 38) dX2_at_37 rfl ?_
        refine aw_goto (tgt := 47) dX2_at_38 (by decide) ?_
        exact aw_ireturn dX2_at_47 rfl (by first | rfl | exact zB_nar _) (by refine ⟨?_, rfl⟩; rw [tAtC, if_pos ⟨zB_1 ha, zB_1 hb⟩, if_pos (Int32.not_lt.mp hc)])
    · refine aw_bipush (v := (-2)) (q := 22) dX2_at_20 rfl rfl ?_
      exact aw_ireturn dX2_at_22 rfl (by first | rfl | exact zB_nar _) (by refine ⟨?_, rfl⟩; rw [tAtC, if_neg (fun h => zB_0 hb h.2)])
theorem C2_money {w : Int32} (hT : zTP G μ m lam K P) : Meets G 2 MX2_money [.ref m, .int w] μ (zPure (.int (tMoney P w)) μ) 0 0 := by
  have hm := hT.m
  have h1 := hT.a1
  obtain ⟨hn, hN⟩ := hT.2.2.b
  refine meets_of (by decide +kernel) (Nat.le_of_ble_eq_true rfl) ?_
  refine aw_iload_n (i := 1) (q := 1) dX2_money_0 rfl rfl rfl ?_
  refine aw_iconst (v := 0) (q := 2) dX2_money_1 rfl rfl ?_
  refine aw_iconst (v := 3) (q := 3) dX2_money_2 rfl rfl ?_
  refine aw_callS (q := 6) dX2_money_3 (C2_in) cs_X2_49 rfl rfl (by decide) (by decide) (by first | exact Nat.le_of_ble_eq_true rfl | simp [zcat_rf, Value.category]) rfl (zpk ?_)
  refine aw_if_ne (tgt := 12) (q := 9) dX2_money_6 (by decide) rfl (fun ha => ?_) (fun ha => ?_)
  · refine aw_iconst (v := 0) (q := 13) dX2_money_12 rfl rfl ?_
    refine aw_istore_n (i := 2) (q := 14) dX2_money_13 rfl (by decide) rfl ?_
    refine aw_iconst (v := 0) (q := 15) dX2_money_14 rfl rfl ?_
    refine aw_istore_n (i := 3) (q := 16) dX2_money_15 rfl (by decide) rfl ?_
    have loop : ∀ n e, e + n = pcn P 10 → AW G 2 MX2_money (zPure (.int (tMoney P w)) μ) 0 0 16 [(0, .ref m), (1, .int w), (2, .int (tSumR (fun b => if w = 0 then P 4 b 5 else if w = 1 then P 4 b 6 else if (0 ≤ P 4 b 2 ↔ w = 2) then P 4 b 5 - P 4 b 6 else 0) e)), (3, .int (nI e))] [] μ := by
      intro n
      induction n with
      | zero =>
        intro e he
        refine aw_iload_n (i := 3) (q := 17) dX2_money_16 rfl rfl rfl ?_
        first | refine aw_aload_n (i := 0) (q := 18) dX2_money_17 rfl rfl rfl ?_ | refine aw_aloadN_n (i := 0) (q := 18) dX2_money_17 rfl rfl rfl ?_ | refine aw_aloadQ_n (i := 0) (q := 18) dX2_money_17 rfl rfl rfl ?_
        refine aw_getfield (q := 21) dX2_money_18 gf_X2_7_2 (by assumption) rfl rfl ?_
        refine aw_bipush (v := 10) (q := 23) dX2_money_21 rfl rfl ?_
        refine aw_iald (q := 24) (v := nI (pcn P 10)) (10) dX2_money_23 (by assumption) (by first | assumption | (simp only [← nI_add, ← pk_mul]; rfl) | rfl) (by omega) (by omega) ((hT.2.1.g (by omega)).trans hn) rfl ?_
        refine aw_icmp_ge (tgt := 112) (q := 27) dX2_money_24 (by decide) rfl (fun _ => ?_) (fun hc => absurd (nI_le (by omega) (by omega)) hc)
        refine aw_iload_n (i := 2) (q := 113) dX2_money_112 rfl rfl rfl ?_
        exact aw_ireturn dX2_money_113 rfl (by first | rfl | exact zB_nar _) (by refine ⟨?_, rfl⟩; rw [tMoney, if_pos (zB_1 ha), show pcn P 10 = e by omega])
      | succ n ih =>
        intro e he
        have hlt : e < pcn P 10 := by omega
        have fin : ∀ v : Int32, v = (if w = 0 then P 4 e 5 else if w = 1 then P 4 e 6 else if (0 ≤ P 4 e 2 ↔ w = 2) then P 4 e 5 - P 4 e 6 else 0) → AW G 2 MX2_money (zPure (.int (tMoney P w)) μ) 0 0 104 [(0, .ref m), (1, .int w), (3, .int (nI e))] [.int v, .int (tSumR (fun b => if w = 0 then P 4 b 5 else if w = 1 then P 4 b 6 else if (0 ≤ P 4 b 2 ↔ w = 2) then P 4 b 5 - P 4 b 6 else 0) e)] μ := by
          intro v hv
          subst hv
          refine aw_iadd (q := 105) dX2_money_104 rfl ?_
          refine aw_istore_n (i := 2) (q := 106) dX2_money_105 rfl (by decide) rfl ?_
          refine aw_iinc (q := 109) dX2_money_106 rfl (by first | exact nI_1 _ | rfl) (by decide) rfl ?_
          refine aw_goto (tgt := 16) dX2_money_109 (by decide) ?_
          exact aw_locals (by exact ⟨rfl, rfl, rfl, rfl, trivial⟩) (ih (e + 1) (by omega))
        have two : ∀ q : Int32, q = zB (0 ≤ P 4 e 2) → AW G 2 MX2_money (zPure (.int (tMoney P w)) μ) 0 0 58 [(0, .ref m), (1, .int w), (2, .int (tSumR (fun b => if w = 0 then P 4 b 5 else if w = 1 then P 4 b 6 else if (0 ≤ P 4 b 2 ↔ w = 2) then P 4 b 5 - P 4 b 6 else 0) e)), (3, .int (nI e)), (4, .int (P 4 e 5)), (5, .int (P 4 e 6))] [.int q] μ := by
          intro q hq
          subst hq
          have three : ∀ u : Int32, u = zB (w = 2) → ¬ w = 0 → ¬ w = 1 → AW G 2 MX2_money (zPure (.int (tMoney P w)) μ) 0 0 92 [(0, .ref m), (1, .int w), (3, .int (nI e)), (4, .int (P 4 e 5)), (5, .int (P 4 e 6))] [.int u, .int (zB (0 ≤ P 4 e 2)), .int (tSumR (fun b => if w = 0 then P 4 b 5 else if w = 1 then P 4 b 6 else if (0 ≤ P 4 b 2 ↔ w = 2) then P 4 b 5 - P 4 b 6 else 0) e)] μ := by
            intro u hu h0 h01
            subst hu
            have key : zB (0 ≤ P 4 e 2) = zB (w = 2) ↔ (0 ≤ P 4 e 2 ↔ w = 2) := by
              unfold zB
              by_cases x1 : 0 ≤ P 4 e 2
              · by_cases x2 : w = 2
                · simp [x1, x2]
                · simp [x1, x2]
              · by_cases x2 : w = 2
                · simp [x1, x2]
                · simp [x1, x2]
            refine aw_icmp_ne (tgt := 103) (q := 95) dX2_money_92 (by decide) rfl (fun hx => ?_) (fun hx => ?_)
            · refine aw_iconst (v := 0) (q := 104) dX2_money_103 rfl rfl ?_
              exact aw_locals (by exact ⟨rfl, rfl, rfl, trivial⟩) (fin _ (by rw [if_neg h0, if_neg h01, if_neg (fun h => hx (key.mpr h))]))
            · refine aw_iload (q := 97) dX2_money_95 rfl rfl ?_
              refine aw_iload (q := 99) dX2_money_97 rfl rfl ?_
              refine aw_isub (q := 100) dX2_money_99 rfl ?_
              refine aw_goto (tgt := 104) dX2_money_100 (by decide) ?_
              exact aw_locals (by exact ⟨rfl, rfl, rfl, trivial⟩) (fin _ (by rw [if_neg h0, if_neg h01, if_pos (key.mp hx)]))
          refine aw_istore (q := 60) dX2_money_58 (by decide) rfl ?_
          refine aw_iload_n (i := 2) (q := 61) dX2_money_60 rfl rfl rfl ?_
          refine aw_iload_n (i := 1) (q := 62) dX2_money_61 rfl rfl rfl ?_
          refine aw_if_ne (tgt := 70) (q := 65) dX2_money_62 (by decide) rfl (fun h0 => ?_) (fun h0 => ?_)
          · refine aw_iload_n (i := 1) (q := 71) dX2_money_70 rfl rfl rfl ?_
            refine aw_iconst (v := 1) (q := 72) dX2_money_71 rfl rfl ?_
            refine aw_icmp_ne (tgt := 80) (q := 75) dX2_money_72 (by decide) rfl (fun h01 => ?_) (fun h01 => ?_)
            · refine aw_iload (q := 82) dX2_money_80 rfl rfl ?_
              refine aw_iload_n (i := 1) (q := 83) dX2_money_82 rfl rfl rfl ?_
              refine aw_iconst (v := 2) (q := 84) dX2_money_83 rfl rfl ?_
              refine aw_icmp_ne (tgt := 91) (q := 87) dX2_money_84 (by decide) rfl (fun h2 => ?_) (fun h2 => ?_)
              · refine aw_iconst (v := 0) (q := 92) dX2_money_91 rfl rfl ?_
                exact aw_locals (by exact ⟨rfl, rfl, rfl, rfl, rfl, trivial⟩) (three _ (zB_f h2).symm h0 h01)
              · refine aw_iconst (v := 1) (q := 88) dX2_money_87 rfl rfl ?_
                refine aw_goto (tgt := 92) dX2_money_88 (by decide) ?_
                exact aw_locals (by exact ⟨rfl, rfl, rfl, rfl, rfl, trivial⟩) (three _ (zB_t h2).symm h0 h01)
            · refine aw_iload (q := 77) dX2_money_75 rfl rfl ?_
              refine aw_goto (tgt := 104) dX2_money_77 (by decide) ?_
              exact aw_locals (by exact ⟨rfl, rfl, rfl, trivial⟩) (fin _ (by rw [if_neg h0, if_pos h01]))
          · refine aw_iload (q := 67) dX2_money_65 rfl rfl ?_
            refine aw_goto (tgt := 104) dX2_money_67 (by decide) ?_
            exact aw_locals (by exact ⟨rfl, rfl, rfl, trivial⟩) (fin _ (by rw [if_pos h0]))
        refine aw_iload_n (i := 3) (q := 17) dX2_money_16 rfl rfl rfl ?_
        first | refine aw_aload_n (i := 0) (q := 18) dX2_money_17 rfl rfl rfl ?_ | refine aw_aloadN_n (i := 0) (q := 18) dX2_money_17 rfl rfl rfl ?_ | refine aw_aloadQ_n (i := 0) (q := 18) dX2_money_17 rfl rfl rfl ?_
        refine aw_getfield (q := 21) dX2_money_18 gf_X2_7_2 (by assumption) rfl rfl ?_
        refine aw_bipush (v := 10) (q := 23) dX2_money_21 rfl rfl ?_
        refine aw_iald (q := 24) (v := nI (pcn P 10)) (10) dX2_money_23 (by assumption) (by first | assumption | (simp only [← nI_add, ← pk_mul]; rfl) | rfl) (by omega) (by omega) ((hT.2.1.g (by omega)).trans hn) rfl ?_
        refine aw_icmp_ge (tgt := 112) (q := 27) dX2_money_24 (by decide) rfl (fun hc => absurd hc (nI_ge hlt (by omega))) (fun _ => ?_)
        first | refine aw_aload_n (i := 0) (q := 28) dX2_money_27 rfl rfl rfl ?_ | refine aw_aloadN_n (i := 0) (q := 28) dX2_money_27 rfl rfl rfl ?_ | refine aw_aloadQ_n (i := 0) (q := 28) dX2_money_27 rfl rfl rfl ?_
        refine aw_iload_n (i := 3) (q := 29) dX2_money_28 rfl rfl rfl ?_
        refine aw_iconst (v := 5) (q := 30) dX2_money_29 rfl rfl ?_
        refine aw_callV (q := 33) dX2_money_30 (C2_ofBooking (s := e) (c := 5) hT rfl rfl (by omega) (by omega)) cv_X2_88_2 (by assumption) rfl rfl (by decide) (by decide) (by first | exact Nat.le_of_ble_eq_true rfl | simp [zcat_rf, Value.category]) rfl (zpk ?_)
        refine aw_istore (q := 35) dX2_money_33 (by decide) rfl ?_
        first | refine aw_aload_n (i := 0) (q := 36) dX2_money_35 rfl rfl rfl ?_ | refine aw_aloadN_n (i := 0) (q := 36) dX2_money_35 rfl rfl rfl ?_ | refine aw_aloadQ_n (i := 0) (q := 36) dX2_money_35 rfl rfl rfl ?_
        refine aw_iload_n (i := 3) (q := 37) dX2_money_36 rfl rfl rfl ?_
        refine aw_bipush (v := 6) (q := 39) dX2_money_37 rfl rfl ?_
        refine aw_callV (q := 42) dX2_money_39 (C2_ofBooking (s := e) (c := 6) hT rfl rfl (by omega) (by omega)) cv_X2_88_2 (by assumption) rfl rfl (by decide) (by decide) (by first | exact Nat.le_of_ble_eq_true rfl | simp [zcat_rf, Value.category]) rfl (zpk ?_)
        refine aw_istore (q := 44) dX2_money_42 (by decide) rfl ?_
        first | refine aw_aload_n (i := 0) (q := 45) dX2_money_44 rfl rfl rfl ?_ | refine aw_aloadN_n (i := 0) (q := 45) dX2_money_44 rfl rfl rfl ?_ | refine aw_aloadQ_n (i := 0) (q := 45) dX2_money_44 rfl rfl rfl ?_
        refine aw_iload_n (i := 3) (q := 46) dX2_money_45 rfl rfl rfl ?_
        refine aw_iconst (v := 2) (q := 47) dX2_money_46 rfl rfl ?_
        refine aw_callV (q := 50) dX2_money_47 (C2_ofBooking (s := e) (c := 2) hT rfl rfl (by omega) (by omega)) cv_X2_88_2 (by assumption) rfl rfl (by decide) (by decide) (by first | exact Nat.le_of_ble_eq_true rfl | simp [zcat_rf, Value.category]) rfl (zpk ?_)
        refine aw_if_lt (tgt := 57) (q := 53) dX2_money_50 (by decide) rfl (fun hs => ?_) (fun hs => ?_)
        · refine aw_iconst (v := 0) (q := 58) dX2_money_57 rfl rfl ?_
          exact aw_locals (by exact ⟨rfl, rfl, rfl, rfl, rfl, rfl, trivial⟩) (two _ (zB_f (Int32.not_le.mpr hs)).symm)
        · refine aw_iconst (v := 1) (q := 54) dX2_money_53 rfl rfl ?_
          refine aw_goto (tgt := 58) dX2_money_54 (by decide) ?_
          exact aw_locals (by exact ⟨rfl, rfl, rfl, rfl, rfl, rfl, trivial⟩) (two _ (zB_t (Int32.not_lt.mp hs)).symm)
    exact aw_locals (by exact ⟨rfl, rfl, rfl, rfl, trivial⟩) (loop (pcn P 10) 0 (by omega))
  · refine aw_bipush (v := (-2)) (q := 11) dX2_money_9 rfl rfl ?_
    exact aw_ireturn dX2_money_11 rfl (by first | rfl | exact zB_nar _) (by refine ⟨?_, rfl⟩; rw [tMoney, if_neg (zB_0 ha)])
end ZTW18
