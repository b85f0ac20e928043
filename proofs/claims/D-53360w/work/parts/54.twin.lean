/-! THE TWIN, part 14: its whole state; record, keep, comeBack -/
set_option maxRecDepth 100000
theorem zTP.st' {G : zG} {μ0 μ μ1 : zM} {m : Nat} {lam : Nat → Nat} {K : Nat → Nat → Int32} {f : Nat → Int32} {P : zP} (hT : zTP G μ m lam (setK K 1 f) P) (hk0 : zKp tTw μ0 μ) {s i c k : Nat} {v : Int32} (hs : s < 7) (hi : i < tC s) (hc : c < tW s) (hk : tB s + tW s * i + c = k) (hμ : μ1 = updM μ (lam 1) ((2, 1), aI G 1980 (upd (setK K 1 f 1) k v))) (hok : tOk (updP P s i c v)) :
    ∃ f2, zTP G μ1 m lam (setK K 1 f2) (updP P s i c v) ∧ zKp tTw μ0 μ1 := by
  obtain ⟨h1, h2⟩ := hT.st hs hi hc hk hμ hok
  rw [setK_twice] at h1
  exact ⟨_, h1, hk0.tr h2⟩
theorem tPlace_lt {s i c : Nat} (hs : s < 7) (hi : i < tC s) (hc : c < tW s) : tB s + tW s * i + c < 1980 := by
  have h : s = 0 ∨ s = 1 ∨ s = 2 ∨ s = 3 ∨ s = 4 ∨ s = 5 ∨ s = 6 := by omega
  rcases h with rfl | rfl | rfl | rfl | rfl | rfl | rfl <;> simp only [tB, tW, tC] at hi hc ⊢ <;> omega
theorem RepN.congr {n n' : Nat → Int32} {P : zP} (h : RepN n P) (e : ∀ j, j < 1980 → n' j = n j) : RepN n' P :=
  fun s i c hs hi hc => (e _ (tPlace_lt hs hi hc)).trans (h s i c hs hi hc)
/-- beside the row of numbers: (how many pasts, the pasts), what is saved, (the pad's length, the pad), whether a text is carried out -/
abbrev tR : Type := (Nat × (Nat → zP)) × (Nat → Option zP) × (Nat × (Nat → Int32)) × Bool
def tSav (v : Int32) (n : Nat → Int32) (Q : Option zP) : Prop := match Q with
  | none => v = 0
  | some Q => v = 1 ∧ RepN n Q
def tRest (K : Nat → Nat → Int32) (R : tR) : Prop :=
  K 0 0 = nI R.1.1 ∧ R.1.1 ≤ 6 ∧ (∀ u, u < R.1.1 → RepN (fun j => K 3 (1980 * u + j)) (R.1.2 u)) ∧ (∀ p, p < 2 → tSav (K 5 p) (fun j => K 4 (1980 * p + j)) (R.2.1 p)) ∧ (∀ j, j < R.2.2.1.1 → K 6 j = R.2.2.1.2 j) ∧ K 0 1 = nI R.2.2.1.1 ∧ R.2.2.1.1 ≤ 80 ∧ K 0 2 = (if R.2.2.2 then 1 else 0)
def zTS (G : zG) (μ : zM) (m : Nat) (lam : Nat → Nat) (K : Nat → Nat → Int32) (P : zP) (R : tR) : Prop := zTP G μ m lam K P ∧ tRest K R
theorem tRest.congr {K K' : Nat → Nat → Int32} {R : tR} (h : tRest K R) (h0 : ∀ j, j < 3 → K' 0 j = K 0 j) (h3 : K' 3 = K 3) (h4 : K' 4 = K 4) (h5 : K' 5 = K 5) (h6 : K' 6 = K 6) : tRest K' R := by
  unfold tRest at h ⊢
  rw [h0 0 (by omega), h0 1 (by omega), h0 2 (by omega), h3, h4, h5, h6]
  exact h
/-- the present is recorded -/
def tRec (P : zP) (R : tR) : tR := if R.2.2.2 then R else if R.1.1 = 6 then ((6, fun u => if u = 5 then P else R.1.2 (u + 1)), R.2) else ((R.1.1 + 1, fun u => if u = R.1.1 then P else R.1.2 u), R.2)
theorem zTw.sc' {G : zG} {μ μ1 : zM} {m : Nat} {lam : Nat → Nat} {K : Nat → Nat → Int32} (hT : zTw G μ m lam K) (j : Nat) (v : Int32) (hμ : μ1 = updM μ m ((2, 0), oTw lam (setK K 0 (upd (K 0) j v)))) : zTw G μ1 m lam (setK K 0 (upd (K 0) j v)) ∧ zKp tTw μ μ1 := hT.sc (fun _ h => setK_ne h) hμ
/-- what a method that may be called by carry leaves beside -/
def tFrK (K K' : Nat → Nat → Int32) : Prop := K' 10 = K 10 ∧ ∀ j, j ≠ 0 → K' 0 j = K 0 j
theorem tFrK.rf {K : Nat → Nat → Int32} : tFrK K K := ⟨rfl, fun _ _ => rfl⟩
theorem tFrK.tr {K K1 K2 : Nat → Nat → Int32} (h1 : tFrK K K1) (h2 : tFrK K1 K2) : tFrK K K2 := ⟨h2.1.trans h1.1, fun j h => (h2.2 j h).trans (h1.2 j h)⟩
section ZTW14
variable {G : zG} {μ : zM} {m : Nat} {lam : Nat → Nat} {K : Nat → Nat → Int32} {P : zP} {R : tR}
/-- what record leaves -/
def tPostR (G : zG) (μ : zM) (m : Nat) (lam : Nat → Nat) (K : Nat → Nat → Int32) (P : zP) (R : tR) : Option Value → zM → Prop := fun v μ' => v = none ∧ (∃ K', zTS G μ' m lam K' P R ∧ K' 1 = K 1 ∧ tFrK K K') ∧ zKp tTw μ μ'
/-- the second half: the present goes to the place after the first nu -/
theorem record_b {nu : Nat} {ps : Nat → zP} (hR : R.2.2.2 = false) (hnu : nu ≤ 5) : ∀ n e, e + n = 1980 → ∀ (μ1 : zM) (K1 : Nat → Nat → Int32), zTP G μ1 m lam K1 P → tRest K1 ((nu, ps), R.2) → (∀ j, j < e → K1 3 (1980 * nu + j) = K1 1 j) → K1 1 = K 1 → tFrK K K1 → zKp tTw μ μ1 → AW G 1 MX2_record (tPostR G μ m lam K P ((nu + 1, fun u => if u = nu then P else ps u), R.2)) 0 0 55 [(0, .ref m), (1, .int (nI e))] [] μ1 := by
  intro n
  induction n with
  | zero =>
    intro e he μ1 K1 hT hr hc h11 hf hk
    have hm := hT.m
    refine aw_iload_n (i := 1) (q := 56) dX2_record_55 rfl rfl rfl ?_
    refine aw_sipush (v := 1980) (q := 59) dX2_record_56 rfl rfl ?_
    refine aw_icmp_ge (tgt := 89) (q := 62) dX2_record_59 (by decide) rfl (fun _ => ?_) (fun hc => absurd (nI_le (a := 1980) (by omega) (by omega)) hc)
    first | refine aw_aload_n (i := 0) (q := 90) dX2_record_89 rfl rfl rfl ?_ | refine aw_aloadN_n (i := 0) (q := 90) dX2_record_89 rfl rfl rfl ?_ | refine aw_aloadQ_n (i := 0) (q := 90) dX2_record_89 rfl rfl rfl ?_
    refine aw_dup (q := 91) dX2_record_90 (by first | rfl | exact zcat_rf _) rfl ?_
    refine aw_getfield (q := 94) dX2_record_91 gf_X2_45_2 (by assumption) rfl rfl ?_
    refine aw_iconst (v := 1) (q := 95) dX2_record_94 rfl rfl ?_
    refine aw_iadd (q := 96) dX2_record_95 rfl ?_
    rw [show K1 0 0 = nI nu from hr.1]
    refine aw_putfield (q := 99) dX2_record_96 gf_X2_45_2 hm (by first | assumption | simp) (by first | rfl | exact znar_rf _ _) (by first | rfl | exact zfit_rf _ _) (Nat.le_of_ble_eq_true rfl) rfl (fun μ2 hg_μ2 => ?_)
    have hm : μ2 _ = some _ := hg_μ2 ▸ updM_eq _ _ _
    simp only [List.set] at hm hg_μ2
    obtain ⟨hT2, hk2⟩ := hT.1.sc' 0 (nI nu + 1) hg_μ2
    have hfin : ∃ K', zTS G μ2 m lam K' P ((nu + 1, fun u => if u = nu then P else ps u), R.2) ∧ K' 1 = K 1 ∧ tFrK K K' := by
      refine ⟨_, ⟨hT.other hT2 (setK_ne (by decide)), ?_⟩, ?_, ?_⟩
      · obtain ⟨r0, r1, r2, r3, r4, r5, r6, r7⟩ := hr
        refine ⟨?_, ?_, fun u hu => ?_, r3, r4, r5, r6, r7⟩
        · show upd (K1 0) 0 _ 0 = _
          rw [pk_us]
          exact nI_1 nu
        · show nu + 1 ≤ 6
          omega
        · show RepN (fun j => K1 3 (1980 * u + j)) (if u = nu then P else ps u)
          by_cases hun : u = nu
          · subst hun
            rw [if_pos rfl]
            exact hT.2.1.congr (fun j hj => hc j (by omega))
          · rw [if_neg hun]
            exact r2 u (by have : u < nu + 1 := hu; show u < nu; omega)
      · exact (setK_ne (by decide)).trans h11
      · exact hf.tr ⟨rfl, fun j hj => pk_un hj⟩
    exact aw_return dX2_record_99 rfl (⟨rfl, hfin, hk.tr hk2⟩)
  | succ n ih =>
    intro e he μ1 K1 hT hr hc h11 hf hk
    have hm := hT.m
    have h1 := hT.a1
    have h3 := hT.a3
    refine aw_iload_n (i := 1) (q := 56) dX2_record_55 rfl rfl rfl ?_
    refine aw_sipush (v := 1980) (q := 59) dX2_record_56 rfl rfl ?_
    refine aw_icmp_ge (tgt := 89) (q := 62) dX2_record_59 (by decide) rfl (fun hc => absurd hc (nI_ge (b := 1980) (a := e) (by omega) (by omega))) (fun _ => ?_)
    first | refine aw_aload_n (i := 0) (q := 63) dX2_record_62 rfl rfl rfl ?_ | refine aw_aloadN_n (i := 0) (q := 63) dX2_record_62 rfl rfl rfl ?_ | refine aw_aloadQ_n (i := 0) (q := 63) dX2_record_62 rfl rfl rfl ?_
    refine aw_getfield (q := 66) dX2_record_63 gf_X2_16_2 (by assumption) rfl rfl ?_
    first | refine aw_aload_n (i := 0) (q := 67) dX2_record_66 rfl rfl rfl ?_ | refine aw_aloadN_n (i := 0) (q := 67) dX2_record_66 rfl rfl rfl ?_ | refine aw_aloadQ_n (i := 0) (q := 67) dX2_record_66 rfl rfl rfl ?_
    refine aw_getfield (q := 70) dX2_record_67 gf_X2_45_2 (by assumption) rfl rfl ?_
    refine aw_sipush (v := 1980) (q := 73) dX2_record_70 rfl rfl ?_
    refine aw_imul (q := 74) dX2_record_73 rfl ?_
    refine aw_iload_n (i := 1) (q := 75) dX2_record_74 rfl rfl rfl ?_
    refine aw_iadd (q := 76) dX2_record_75 rfl ?_
    first | refine aw_aload_n (i := 0) (q := 77) dX2_record_76 rfl rfl rfl ?_ | refine aw_aloadN_n (i := 0) (q := 77) dX2_record_76 rfl rfl rfl ?_ | refine aw_aloadQ_n (i := 0) (q := 77) dX2_record_76 rfl rfl rfl ?_
    refine aw_getfield (q := 80) dX2_record_77 gf_X2_7_2 (by assumption) rfl rfl ?_
    refine aw_iload_n (i := 1) (q := 81) dX2_record_80 rfl rfl rfl ?_
    rw [show K1 0 0 = nI nu from hr.1]
    refine aw_iald (q := 82) (v := K1 1 e) (e) dX2_record_81 (by assumption) (by first | assumption | (simp only [← nI_add, ← pk_mul]; rfl) | rfl) (by omega) (by omega) (rfl) rfl ?_
    have hix : nI nu * 1980 + nI e = nI (1980 * nu + e) := by rw [Nat.mul_comm, ← nI_add, ← pk_mul]; rfl
    refine aw_iast (q := 83) (1980 * nu + e) dX2_record_82 h3 (by first | assumption | simp) (by first | assumption | (simp only [← nI_add, ← pk_mul]; rfl) | rfl) (by omega) (by omega) rfl (fun μ2 hg_μ2 => ?_)
    have h3 : μ2 _ = some _ := hg_μ2 ▸ updM_eq _ _ _
    obtain ⟨hT2, hk2⟩ := hT.1.st3 hg_μ2
    refine aw_iinc (q := 86) dX2_record_83 rfl (by first | exact nI_1 _ | rfl) (by decide) rfl ?_
    refine aw_goto (tgt := 55) dX2_record_86 (by decide) ?_
    have hr2 : tRest (setK K1 3 (upd (K1 3) (1980 * nu + e) (K1 1 e))) ((nu, ps), R.2) := by
      obtain ⟨r0, r1, r2, r3, r4, r5, r6, r7⟩ := hr
      refine ⟨r0, r1, fun u hu => ?_, r3, r4, r5, r6, r7⟩
      refine (r2 u hu).congr (fun j hj => pk_un ?_)
      have : u < nu := hu
      omega
    have hc2 : ∀ j, j < e + 1 → setK K1 3 (upd (K1 3) (1980 * nu + e) (K1 1 e)) 3 (1980 * nu + j) = setK K1 3 (upd (K1 3) (1980 * nu + e) (K1 1 e)) 1 j := by
      intro j hj
      show upd (K1 3) (1980 * nu + e) (K1 1 e) (1980 * nu + j) = K1 1 j
      by_cases hje : j = e
      · subst hje; exact pk_us
      · rw [pk_un (by omega)]; exact hc j (by omega)
    exact aw_locals (by exact ⟨rfl, rfl, trivial⟩) (ih (e + 1) (by omega) μ2 _ (hT.other hT2 (setK_ne (by decide))) hr2 hc2 ((setK_ne (by decide)).trans h11) (hf.tr ⟨rfl, fun j hj => rfl⟩) (hk.tr hk2))
/-- the first half where six are kept: each goes a place down -/
theorem record_a (hR : R.2.2.2 = false) (h6 : R.1.1 = 6) (hrr : tRest K R) : ∀ n e, e + n = 9900 → ∀ (μ1 : zM) (f : Nat → Int32), zTP G μ1 m lam (setK K 3 f) P → (∀ j, j < e → f j = K 3 (j + 1980)) → (∀ j, e ≤ j → f j = K 3 j) → zKp tTw μ μ1 → AW G 1 MX2_record (tPostR G μ m lam K P (tRec P R)) 0 0 19 [(0, .ref m), (1, .int (nI e))] [] μ1 := by
  intro n
  induction n with
  | zero =>
    intro e he μ1 f hT hc hd hk
    have hm := hT.m
    refine aw_iload_n (i := 1) (q := 20) dX2_record_19 rfl rfl rfl ?_
    refine aw_sipush (v := 9900) (q := 23) dX2_record_20 rfl rfl ?_
    refine aw_icmp_ge (tgt := 48) (q := 26) dX2_record_23 (by decide) rfl (fun _ => ?_) (fun hc => absurd (nI_le (a := 9900) (by omega) (by omega)) hc)
    first | refine aw_aload_n (i := 0) (q := 49) dX2_record_48 rfl rfl rfl ?_ | refine aw_aloadN_n (i := 0) (q := 49) dX2_record_48 rfl rfl rfl ?_ | refine aw_aloadQ_n (i := 0) (q := 49) dX2_record_48 rfl rfl rfl ?_
    refine aw_iconst (v := 5) (q := 50) dX2_record_49 rfl rfl ?_
    refine aw_putfield (q := 53) dX2_record_50 gf_X2_45_2 hm (by first | assumption | simp) (by first | rfl | exact znar_rf _ _) (by first | rfl | exact zfit_rf _ _) (Nat.le_of_ble_eq_true rfl) rfl (fun μ2 hg_μ2 => ?_)
    have hm : μ2 _ = some _ := hg_μ2 ▸ updM_eq _ _ _
    simp only [List.set] at hm hg_μ2
    obtain ⟨hT2, hk2⟩ := hT.1.sc' 0 5 hg_μ2
    have hT2 := hT.other hT2 (setK_ne (by decide))
    have hr2 : tRest (setK (setK K 3 f) 0 (upd (setK K 3 f 0) 0 5)) ((5, fun u => R.1.2 (u + 1)), R.2) := by
      obtain ⟨r0, r1, r2, r3, r4, r5, r6, r7⟩ := hrr
      refine ⟨rfl, (by decide : 5 ≤ 6), fun u hu => ?_, r3, r4, r5, r6, r7⟩
      have hu5 : u < 5 := hu
      refine (r2 (u + 1) (by omega)).congr (fun j hj => ?_)
      show f (1980 * u + j) = K 3 (1980 * (u + 1) + j)
      rw [hc _ (by omega)]
      congr 1
      omega
    have e1 : tRec P R = ((5 + 1, fun u => if u = 5 then P else R.1.2 (u + 1)), R.2) := by
      unfold tRec
      rw [if_neg (by rw [hR]; decide), if_pos h6]
    rw [e1]
    refine aw_iconst (v := 0) (q := 54) dX2_record_53 rfl rfl ?_
    refine aw_istore_n (i := 1) (q := 55) dX2_record_54 rfl (by decide) rfl ?_
    exact aw_locals (by exact ⟨rfl, rfl, trivial⟩) (record_b (ps := fun u => R.1.2 (u + 1)) hR (by omega) 1980 0 (by omega) μ2 _ hT2 hr2 (fun j hj => by omega) rfl (⟨rfl, fun j hj => pk_un hj⟩) (hk.tr hk2))
  | succ n ih =>
    intro e he μ1 f hT hc hd hk
    have hm := hT.m
    have h3 := hT.a3
    refine aw_iload_n (i := 1) (q := 20) dX2_record_19 rfl rfl rfl ?_
    refine aw_sipush (v := 9900) (q := 23) dX2_record_20 rfl rfl ?_
    refine aw_icmp_ge (tgt := 48) (q := 26) dX2_record_23 (by decide) rfl (fun hc => absurd hc (nI_ge (b := 9900) (a := e) (by omega) (by omega))) (fun _ => ?_)
    first | refine aw_aload_n (i := 0) (q := 27) dX2_record_26 rfl rfl rfl ?_ | refine aw_aloadN_n (i := 0) (q := 27) dX2_record_26 rfl rfl rfl ?_ | refine aw_aloadQ_n (i := 0) (q := 27) dX2_record_26 rfl rfl rfl ?_
    refine aw_getfield (q := 30) dX2_record_27 gf_X2_16_2 (by assumption) rfl rfl ?_
    refine aw_iload_n (i := 1) (q := 31) dX2_record_30 rfl rfl rfl ?_
    first | refine aw_aload_n (i := 0) (q := 32) dX2_record_31 rfl rfl rfl ?_ | refine aw_aloadN_n (i := 0) (q := 32) dX2_record_31 rfl rfl rfl ?_ | refine aw_aloadQ_n (i := 0) (q := 32) dX2_record_31 rfl rfl rfl ?_
    refine aw_getfield (q := 35) dX2_record_32 gf_X2_16_2 (by assumption) rfl rfl ?_
    refine aw_iload_n (i := 1) (q := 36) dX2_record_35 rfl rfl rfl ?_
    refine aw_sipush (v := 1980) (q := 39) dX2_record_36 rfl rfl ?_
    refine aw_iadd (q := 40) dX2_record_39 rfl ?_
    refine aw_iald (q := 41) (v := K 3 (e + 1980)) (e + 1980) dX2_record_40 (by assumption) (by first | assumption | (simp only [← nI_add, ← pk_mul]; rfl) | rfl) (by omega) (by omega) (hd _ (by omega)) rfl ?_
    refine aw_iast (q := 42) (e) dX2_record_41 h3 (by first | assumption | simp) (by first | assumption | (simp only [← nI_add, ← pk_mul]; rfl) | rfl) (by omega) (by omega) rfl (fun μ2 hg_μ2 => ?_)
    have h3 : μ2 _ = some _ := hg_μ2 ▸ updM_eq _ _ _
    obtain ⟨hT2, hk2⟩ := hT.1.st3 hg_μ2
    rw [setK_twice] at hT2
    refine aw_iinc (q := 45) dX2_record_42 rfl (by first | exact nI_1 _ | rfl) (by decide) rfl ?_
    refine aw_goto (tgt := 19) dX2_record_45 (by decide) ?_
    exact aw_locals (by exact ⟨rfl, rfl, trivial⟩) (ih (e + 1) (by omega) μ2 _ (hT.other hT2 (by rw [setK_ne (by decide), setK_ne (by decide)])) (fun j hj => by (by_cases hje : j = e; (subst hje; exact pk_us); (rw [pk_un hje]; exact hc j (by omega)))) (fun j hj => by (rw [pk_un (by omega)]; exact hd j (by omega))) (hk.tr hk2))
theorem C2_record (hS : zTS G μ m lam K P R) : Meets G 1 MX2_record [.ref m] μ (tPostR G μ m lam K P (tRec P R)) 0 0 := by
  obtain ⟨hT, hr⟩ := hS
  have hm := hT.m
  refine meets_of (by decide +kernel) (Nat.le_of_ble_eq_true rfl) ?_
  first | refine aw_aload_n (i := 0) (q := 1) dX2_record_0 rfl rfl rfl ?_ | refine aw_aloadN_n (i := 0) (q := 1) dX2_record_0 rfl rfl rfl ?_ | refine aw_aloadQ_n (i := 0) (q := 1) dX2_record_0 rfl rfl rfl ?_
  refine aw_getfield (q := 4) dX2_record_1 gf_X2_41_2 (by assumption) rfl rfl ?_
  rw [hr.2.2.2.2.2.2.2]
  cases hR : R.2.2.2 with
  | true =>
    refine aw_if_eq (tgt := 8) (q := 7) dX2_record_4 (by decide) rfl (fun hc => absurd hc ((by decide))) (fun _ => ?_)
    exact aw_return dX2_record_7 rfl (⟨rfl, ⟨K, ⟨hT, by unfold tRec; rw [if_pos hR]; exact hr⟩, rfl, tFrK.rf⟩, zKp.rf⟩)
  | false =>
    refine aw_if_eq (tgt := 8) (q := 7) dX2_record_4 (by decide) rfl (fun _ => ?_) (fun hc => absurd (rfl) hc)
    first | refine aw_aload_n (i := 0) (q := 9) dX2_record_8 rfl rfl rfl ?_ | refine aw_aloadN_n (i := 0) (q := 9) dX2_record_8 rfl rfl rfl ?_ | refine aw_aloadQ_n (i := 0) (q := 9) dX2_record_8 rfl rfl rfl ?_
    refine aw_getfield (q := 12) dX2_record_9 gf_X2_45_2 (by assumption) rfl rfl ?_
    refine aw_bipush (v := 6) (q := 14) dX2_record_12 rfl rfl ?_
    rw [hr.1]
    by_cases h6 : R.1.1 = 6
    · rw [h6]
      refine aw_icmp_ne (tgt := 53) (q := 17) dX2_record_14 (by decide) rfl (fun hc => absurd (rfl) hc) (fun _ => ?_)
      refine aw_iconst (v := 0) (q := 18) dX2_record_17 rfl rfl ?_
      refine aw_istore_n (i := 1) (q := 19) dX2_record_18 rfl (by decide) rfl ?_
      exact aw_locals (by exact ⟨rfl, rfl, trivial⟩) (record_a hR h6 hr 9900 0 (by omega) μ (K 3) (by rw [setK_self]; exact hT) (fun j hj => by omega) (fun j hj => rfl) zKp.rf)
    · have hlt : R.1.1 < 6 := by have := hr.2.1; omega
      refine aw_icmp_ne (tgt := 53) (q := 17) dX2_record_14 (by decide) rfl (fun _ => ?_) (fun hc => absurd hc (fun h => h6 ((nI_eq (by omega) (by decide)).mp h)))
      refine aw_iconst (v := 0) (q := 54) dX2_record_53 rfl rfl ?_
      refine aw_istore_n (i := 1) (q := 55) dX2_record_54 rfl (by decide) rfl ?_
      have e1 : tRec P R = ((R.1.1 + 1, fun u => if u = R.1.1 then P else R.1.2 u), R.2) := by
        unfold tRec
        rw [if_neg (by rw [hR]; decide), if_neg h6]
      rw [e1]
      exact aw_locals (by exact ⟨rfl, rfl, trivial⟩) (record_b (nu := R.1.1) (ps := R.1.2) hR (by omega) 1980 0 (by omega) μ K hT hr (fun j hj => by omega) rfl tFrK.rf zKp.rf)
theorem C2_keep (hT : zTP G μ m lam K P) : Meets G 1 MX2_keep [.ref m] μ (fun v μ' => v = none ∧ (∃ f : Nat → Int32, (∀ j, j < 1980 → f j = K 1 j) ∧ zTP G μ' m lam (setK K 2 f) P) ∧ zKp tTw μ μ') 0 0 := by
  refine meets_of (by decide +kernel) (Nat.le_of_ble_eq_true rfl) ?_
  refine aw_iconst (v := 0) (q := 1) dX2_keep_0 rfl rfl ?_
  refine aw_istore_n (i := 1) (q := 2) dX2_keep_1 rfl (by decide) rfl ?_
  have loop : ∀ n e, e + n = 1980 → ∀ (μ1 : zM) (f : Nat → Int32), (∀ j, j < e → f j = K 1 j) → zTP G μ1 m lam (setK K 2 f) P → zKp tTw μ μ1 → AW G 1 MX2_keep (fun v μ' => v = none ∧ (∃ f : Nat → Int32, (∀ j, j < 1980 → f j = K 1 j) ∧ zTP G μ' m lam (setK K 2 f) P) ∧ zKp tTw μ μ') 0 0 2 [(0, .ref m), (1, .int (nI e))] [] μ1 := by
    intro n
    induction n with
    | zero =>
      intro e he μ1 f hf hT hk
      refine aw_iload_n (i := 1) (q := 3) dX2_keep_2 rfl rfl rfl ?_
      refine aw_sipush (v := 1980) (q := 6) dX2_keep_3 rfl rfl ?_
      refine aw_icmp_ge (tgt := 27) (q := 9) dX2_keep_6 (by decide) rfl (fun _ => ?_) (fun hc => absurd (nI_le (a := 1980) (by omega) (by omega)) hc)
      exact aw_return dX2_keep_27 rfl (⟨rfl, ⟨f, fun j hj => hf j (by omega), hT⟩, hk⟩)
    | succ n ih =>
      intro e he μ1 f hf hT hk
      have hm := hT.m
      have h1 := hT.a1
      have h2 := hT.a2
      refine aw_iload_n (i := 1) (q := 3) dX2_keep_2 rfl rfl rfl ?_
      refine aw_sipush (v := 1980) (q := 6) dX2_keep_3 rfl rfl ?_
      refine aw_icmp_ge (tgt := 27) (q := 9) dX2_keep_6 (by decide) rfl (fun hc => absurd hc (nI_ge (b := 1980) (a := e) (by omega) (by omega))) (fun _ => ?_)
      first | refine aw_aload_n (i := 0) (q := 10) dX2_keep_9 rfl rfl rfl ?_ | refine aw_aloadN_n (i := 0) (q := 10) dX2_keep_9 rfl rfl rfl ?_ | refine aw_aloadQ_n (i := 0) (q := 10) dX2_keep_9 rfl rfl rfl ?_
      refine aw_getfield (q := 13) dX2_keep_10 gf_X2_13_2 (by assumption) rfl rfl ?_
      refine aw_iload_n (i := 1) (q := 14) dX2_keep_13 rfl rfl rfl ?_
      first | refine aw_aload_n (i := 0) (q := 15) dX2_keep_14 rfl rfl rfl ?_ | refine aw_aloadN_n (i := 0) (q := 15) dX2_keep_14 rfl rfl rfl ?_ | refine aw_aloadQ_n (i := 0) (q := 15) dX2_keep_14 rfl rfl rfl ?_
      refine aw_getfield (q := 18) dX2_keep_15 gf_X2_7_2 (by assumption) rfl rfl ?_
      refine aw_iload_n (i := 1) (q := 19) dX2_keep_18 rfl rfl rfl ?_
      refine aw_iald (q := 20) (v := K 1 e) (e) dX2_keep_19 (by assumption) (by first | assumption | (simp only [← nI_add, ← pk_mul]; rfl) | rfl) (by omega) (by omega) (rfl) rfl ?_
      refine aw_iast (q := 21) (e) dX2_keep_20 h2 (by first | assumption | simp) (by first | assumption | (simp only [← nI_add, ← pk_mul]; rfl) | rfl) (by omega) (by omega) rfl (fun μ2 hg_μ2 => ?_)
      have h2 : μ2 _ = some _ := hg_μ2 ▸ updM_eq _ _ _
      obtain ⟨hT2, hk2⟩ := hT.1.st2 hg_μ2
      rw [setK_twice, setK_eq] at hT2
      refine aw_iinc (q := 24) dX2_keep_21 rfl (by first | exact nI_1 _ | rfl) (by decide) rfl ?_
      refine aw_goto (tgt := 2) dX2_keep_24 (by decide) ?_
      exact aw_locals (by exact ⟨rfl, rfl, trivial⟩) (ih (e + 1) (by omega) μ2 _ (fun j hj => by (by_cases hje : j = e; (subst hje; exact pk_us); (rw [pk_un hje]; exact hf j (by omega)))) (hT.other hT2 (by rw [setK_ne (by decide), setK_ne (by decide)])) (hk.tr hk2))
  exact aw_locals (by exact ⟨rfl, rfl, trivial⟩) (loop 1980 0 (by omega) μ (K 2) (fun j hj => by omega) (by rw [setK_self]; exact hT) zKp.rf)
/-- the row of numbers is what was kept -/
theorem C2_comeBack {Q : zP} (hT : zTP G μ m lam K P) (hQ : RepN (K 2) Q) (hok : tOk Q) : Meets G 1 MX2_comeBack [.ref m] μ (tPost G μ m lam K Q none) 0 0 := by
  refine meets_of (by decide +kernel) (Nat.le_of_ble_eq_true rfl) ?_
  refine aw_iconst (v := 0) (q := 1) dX2_comeBack_0 rfl rfl ?_
  refine aw_istore_n (i := 1) (q := 2) dX2_comeBack_1 rfl (by decide) rfl ?_
  have loop : ∀ n e, e + n = 1980 → ∀ (μ1 : zM) (f : Nat → Int32), (∀ j, j < e → f j = K 2 j) → zTw G μ1 m lam (setK K 1 f) → zKp tTw μ μ1 → AW G 1 MX2_comeBack (tPost G μ m lam K Q none) 0 0 2 [(0, .ref m), (1, .int (nI e))] [] μ1 := by
    intro n
    induction n with
    | zero =>
      intro e he μ1 f hf hT hk
      refine aw_iload_n (i := 1) (q := 3) dX2_comeBack_2 rfl rfl rfl ?_
      refine aw_sipush (v := 1980) (q := 6) dX2_comeBack_3 rfl rfl ?_
      refine aw_icmp_ge (tgt := 27) (q := 9) dX2_comeBack_6 (by decide) rfl (fun _ => ?_) (fun hc => absurd (nI_le (a := 1980) (by omega) (by omega)) hc)
      exact aw_return dX2_comeBack_27 rfl (⟨rfl, ⟨f, hT, by rw [setK_eq]; exact hQ.congr (fun j hj => hf j (by omega)), hok⟩, hk⟩)
    | succ n ih =>
      intro e he μ1 f hf hT hk
      have hm := hT.1
      have h1 := hT.2.1
      have h2 := hT.2.2.1
      refine aw_iload_n (i := 1) (q := 3) dX2_comeBack_2 rfl rfl rfl ?_
      refine aw_sipush (v := 1980) (q := 6) dX2_comeBack_3 rfl rfl ?_
      refine aw_icmp_ge (tgt := 27) (q := 9) dX2_comeBack_6 (by decide) rfl (fun hc => absurd hc (nI_ge (b := 1980) (a := e) (by omega) (by omega))) (fun _ => ?_)
      first | refine aw_aload_n (i := 0) (q := 10) dX2_comeBack_9 rfl rfl rfl ?_ | refine aw_aloadN_n (i := 0) (q := 10) dX2_comeBack_9 rfl rfl rfl ?_ | refine aw_aloadQ_n (i := 0) (q := 10) dX2_comeBack_9 rfl rfl rfl ?_
      refine aw_getfield (q := 13) dX2_comeBack_10 gf_X2_7_2 (by assumption) rfl rfl ?_
      refine aw_iload_n (i := 1) (q := 14) dX2_comeBack_13 rfl rfl rfl ?_
      first | refine aw_aload_n (i := 0) (q := 15) dX2_comeBack_14 rfl rfl rfl ?_ | refine aw_aloadN_n (i := 0) (q := 15) dX2_comeBack_14 rfl rfl rfl ?_ | refine aw_aloadQ_n (i := 0) (q := 15) dX2_comeBack_14 rfl rfl rfl ?_
      refine aw_getfield (q := 18) dX2_comeBack_15 gf_X2_13_2 (by assumption) rfl rfl ?_
      refine aw_iload_n (i := 1) (q := 19) dX2_comeBack_18 rfl rfl rfl ?_
      refine aw_iald (q := 20) (v := K 2 e) (e) dX2_comeBack_19 (by assumption) (by first | assumption | (simp only [← nI_add, ← pk_mul]; rfl) | rfl) (by omega) (by omega) (rfl) rfl ?_
      refine aw_iast (q := 21) (e) dX2_comeBack_20 h1 (by first | assumption | simp) (by first | assumption | (simp only [← nI_add, ← pk_mul]; rfl) | rfl) (by omega) (by omega) rfl (fun μ2 hg_μ2 => ?_)
      have h1 : μ2 _ = some _ := hg_μ2 ▸ updM_eq _ _ _
      obtain ⟨hT2, hk2⟩ := hT.st1 hg_μ2
      rw [setK_twice, setK_eq] at hT2
      refine aw_iinc (q := 24) dX2_comeBack_21 rfl (by first | exact nI_1 _ | rfl) (by decide) rfl ?_
      refine aw_goto (tgt := 2) dX2_comeBack_24 (by decide) ?_
      exact aw_locals (by exact ⟨rfl, rfl, trivial⟩) (ih (e + 1) (by omega) μ2 _ (fun j hj => by (by_cases hje : j = e; (subst hje; exact pk_us); (rw [pk_un hje]; exact hf j (by omega)))) hT2 (hk.tr hk2))
  exact aw_locals (by exact ⟨rfl, rfl, trivial⟩) (loop 1980 0 (by omega) μ (K 1) (fun j hj => by omega) (by rw [setK_self]; exact hT.1) zKp.rf)
end ZTW14
