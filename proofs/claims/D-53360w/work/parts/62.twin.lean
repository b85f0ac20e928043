/-! THE TWIN, part 21: put -/
set_option maxRecDepth 100000
theorem zdec (x : Int32) : x + Int32.ofInt (-1) = x - 1 := by rw [Int32.sub_eq_add_neg]; rfl
theorem u_tn {n : Nat} (h : n < 2 ^ 64) : (UInt64.ofNat n).toNat = n := Nat.mod_eq_of_lt h
theorem g_and {a b c : Nat} (ha : a < 2 ^ 64) (hb : b < 2 ^ 64) (hc : a &&& b = c) : lN a &&& lN b = lN c := by
  subst hc
  have h : UInt64.ofNat a &&& UInt64.ofNat b = UInt64.ofNat (a &&& b) := UInt64.toNat_inj.mp (by rw [UInt64.toNat_and, u_tn ha, u_tn hb, u_tn (Nat.and_lt_two_pow a hb)])
  have h2 := congrArg UInt64.toInt64 h
  exact h2
theorem g_mask {a s p : Nat} (hp : 2 ^ s = p) (hs : s < 64) (ha : a < 2 ^ 64) : lN a &&& lN (p - 1) = lN (a % p) := by
  subst hp
  have := Nat.pow_lt_pow_right (show 1 < 2 by decide) hs
  exact g_and ha (by omega) (Nat.and_two_pow_sub_one_eq_mod a s)
theorem g_ushr {a k p : Nat} {y : UInt64} (hy : y = UInt64.ofNat k) (hk : k < 64) (hp : 2 ^ k = p) (ha : a < 2 ^ 64) : ((lN a).toUInt64 >>> y).toInt64 = lN (a / p) := by
  subst hy hp
  have h : UInt64.ofNat a >>> UInt64.ofNat k = UInt64.ofNat (a / 2 ^ k) := UInt64.toNat_inj.mp (by rw [UInt64.toNat_shiftRight, u_tn ha, u_tn (by omega), u_tn (Nat.lt_of_le_of_lt (Nat.div_le_self _ _) ha), Nat.mod_eq_of_lt hk, Nat.shiftRight_eq_div_pow])
  have h2 := congrArg UInt64.toInt64 h
  exact h2
theorem zL_of (x : Int64) : ∃ u, u < 2 ^ 64 ∧ x = lN u := by
  refine ⟨x.toBitVec.toNat, x.toBitVec.isLt, ?_⟩
  apply Int64.toBitVec_inj.mp
  apply BitVec.eq_of_toNat_eq
  have : (lN x.toBitVec.toNat).toBitVec.toNat = x.toBitVec.toNat := Nat.mod_eq_of_lt x.toBitVec.isLt
  exact this.symm
def zU (x : Int64) : Nat := x.toBitVec.toNat
theorem zU_lN {u : Nat} (h : u < 2 ^ 64) : zU (lN u) = u := Nat.mod_eq_of_lt h
theorem zL_0 {u : Nat} (h : u < 2 ^ 64) : lg_cmp (lN u) 0 = 0 ↔ u = 0 := by
  have e : lN u = 0 ↔ u = 0 := by
    constructor
    · intro q
      have := congrArg zU q
      rw [zU_lN h] at this
      exact this
    · intro q; rw [q]; rfl
  unfold lg_cmp
  constructor
  · intro q
    split at q
    · exact absurd q (by decide)
    · split at q
      · exact e.mp (by assumption)
      · exact absurd q (by decide)
  · intro q
    rw [if_neg (by rw [e.mpr q]; decide), if_pos (e.mpr q)]
theorem zL_255 {u : Nat} (h : u < 2 ^ 64) : lN u &&& 255 = lN (u % 256) := g_mask (s := 8) (p := 256) rfl (by decide) h
theorem zL_8 {u : Nat} (h : u < 2 ^ 64) : ((lN u).toUInt64 >>> ((8 : Int32).toInt64.toUInt64 &&& Int64.toUInt64 63)).toInt64 = lN (u / 256) := g_ushr (k := 8) (by decide) (by decide) rfl h
theorem zL_i {u : Nat} : (lN u).toInt32 = nI u := lN_i u
/-- how many signs a number holds; none if one can't stand -/
def tMany : Nat → Nat → Option Nat
  | 0, _ => some 0
  | f + 1, u => if u % 256 = 0 then (if u = 0 then some 0 else none) else if 33 ≤ u % 256 ∧ u % 256 ≤ 126 then (tMany f (u / 256)).map (· + 1) else none
theorem tMany_le : ∀ f u n, tMany f u = some n → n ≤ f
  | 0, u, n, h => by cases h; exact Nat.le_refl _
  | f + 1, u, n, h => by
    unfold tMany at h
    split at h
    · split at h
      · cases h; omega
      · cases h
    · split at h
      · cases hq : tMany f (u / 256) with
        | none => rw [hq] at h; cases h
        | some k => rw [hq] at h; cases h; have := tMany_le f _ _ hq; show k + 1 ≤ f + 1; omega
      · cases h
/-- the signs of a number, the first behind place a -/
def tSigns (u n a : Nat) (t : Nat → Int32) : Nat → Int32 := fun j => if a ≤ j ∧ j < a + n then nI (u / 256 ^ (n - 1 - (j - a)) % 256) else t j
def tPutC (P : zP) (R : tR) (x : Int64) : tT := match tMany 8 (zU x) with
  | none => (P, R, -2)
  | some n => if n = 0 then (P, R, -2) else if 80 < R.2.2.1.1 + n then (P, R, -4) else (P, (R.1, R.2.1, (R.2.2.1.1 + n, tSigns (zU x) n R.2.2.1.1 R.2.2.1.2), R.2.2.2), nI (R.2.2.1.1 + n))
section ZTW21
variable {G : zG} {μ : zM} {m : Nat} {lam : Nat → Nat} {K : Nat → Nat → Int32} {P : zP} {R : tR}
/-- the signs are written from the last on -/
theorem put_b {u0 n : Nat} (hu0 : u0 < 2 ^ 64) (hn : R.2.2.1.1 + n ≤ 80) (hr : tRest K R) {T : tT} (hT0 : T = (P, (R.1, R.2.1, (R.2.2.1.1 + n, tSigns u0 n R.2.2.1.1 R.2.2.1.2), R.2.2.2), nI (R.2.2.1.1 + n))) : ∀ j, j ≤ n → ∀ (μ1 : zM) (f : Nat → Int32), (∀ i, i < R.2.2.1.1 → f i = K 6 i) → (∀ i, j ≤ i → i < n → f (R.2.2.1.1 + i) = nI (u0 / 256 ^ (n - 1 - i) % 256)) → zTP G μ1 m lam (setK K 6 f) P → zKp tTw μ μ1 →
    AW G 2 MX2_put (tPub0 G μ m lam T) 0 0 85 [(0, .ref m), (3, .int (nI n)), (4, .long (lN (u0 / 256 ^ (n - j)))), (6, .int (nI j - 1))] [] μ1 := by
  intro j
  induction j with
  | zero =>
    intro hj μ1 f hf hg hT hk
    have hm := hT.m
    refine aw_iload (q := 87) dX2_put_85 rfl rfl ?_
    refine aw_if_lt (tgt := 122) (q := 90) dX2_put_87 (by decide) rfl (fun _ => ?_) (fun hc => absurd ((by decide)) hc)
    first | refine aw_aload_n (i := 0) (q := 123) dX2_put_122 rfl rfl rfl ?_ | refine aw_aloadN_n (i := 0) (q := 123) dX2_put_122 rfl rfl rfl ?_ | refine aw_aloadQ_n (i := 0) (q := 123) dX2_put_122 rfl rfl rfl ?_
    refine aw_dup (q := 124) dX2_put_123 (by first | rfl | exact zcat_rf _) rfl ?_
    refine aw_getfield (q := 127) dX2_put_124 gf_X2_167_2 (by assumption) rfl rfl ?_
    refine aw_iload_n (i := 3) (q := 128) dX2_put_127 rfl rfl rfl ?_
    refine aw_iadd (q := 129) dX2_put_128 rfl ?_
    rw [show setK K 6 f 0 1 = nI R.2.2.1.1 from hr.2.2.2.2.2.1]
    refine aw_putfield (q := 132) dX2_put_129 gf_X2_167_2 hm (by first | assumption | simp) (by first | rfl | exact znar_rf _ _) (by first | rfl | exact zfit_rf _ _) (Nat.le_of_ble_eq_true rfl) rfl (fun μ2 hg_μ2 => ?_)
    have hm : μ2 _ = some _ := hg_μ2 ▸ updM_eq _ _ _
    simp only [List.set] at hm hg_μ2
    obtain ⟨hT2, hk2⟩ := hT.1.sc' 1 (nI R.2.2.1.1 + nI n) hg_μ2
    have hT2 := hT.other hT2 (setK_ne (by decide))
    first | refine aw_aload_n (i := 0) (q := 133) dX2_put_132 rfl rfl rfl ?_ | refine aw_aloadN_n (i := 0) (q := 133) dX2_put_132 rfl rfl rfl ?_ | refine aw_aloadQ_n (i := 0) (q := 133) dX2_put_132 rfl rfl rfl ?_
    refine aw_getfield (q := 136) dX2_put_133 gf_X2_167_2 (by assumption) rfl rfl ?_
    rw [nI_add]
    have hr3 : tRest (setK (setK K 6 f) 0 (upd (setK K 6 f 0) 1 (nI R.2.2.1.1 + nI n))) (R.1, R.2.1, (R.2.2.1.1 + n, tSigns u0 n R.2.2.1.1 R.2.2.1.2), R.2.2.2) := by
      obtain ⟨r0, r1, r2, r3, r4, r5, r6, r7⟩ := hr
      refine ⟨r0, r1, r2, r3, fun i hi => ?_, nI_add _ _, hn, r7⟩
      show f i = tSigns u0 n R.2.2.1.1 R.2.2.1.2 i
      have hi2 : i < R.2.2.1.1 + n := hi
      unfold tSigns
      by_cases h : R.2.2.1.1 ≤ i
      · rw [if_pos ⟨h, hi2⟩]
        have := hg (i - R.2.2.1.1) (by omega) (by omega)
        rw [show R.2.2.1.1 + (i - R.2.2.1.1) = i by omega] at this
        exact this
      · rw [if_neg (by omega), hf i (by omega)]
        exact r4 i (by omega)
    exact aw_ireturn dX2_put_136 rfl (by first | rfl | exact zB_nar _) (tPub0.of hT2 hr3 (hk.tr hk2) hT0)
  | succ j ih =>
    intro hj μ1 f hf hg hT hk
    have hm := hT.m
    have h6 := hT.a6
    have hlt : u0 / 256 ^ (n - (j + 1)) < 2 ^ 64 := Nat.lt_of_le_of_lt (Nat.div_le_self _ _) hu0
    rw [nI_pred]
    refine aw_iload (q := 87) dX2_put_85 rfl rfl ?_
    refine aw_if_lt (tgt := 122) (q := 90) dX2_put_87 (by decide) rfl (fun hc => absurd hc (nI_pos (by omega))) (fun _ => ?_)
    first | refine aw_aload_n (i := 0) (q := 91) dX2_put_90 rfl rfl rfl ?_ | refine aw_aloadN_n (i := 0) (q := 91) dX2_put_90 rfl rfl rfl ?_ | refine aw_aloadQ_n (i := 0) (q := 91) dX2_put_90 rfl rfl rfl ?_
    refine aw_getfield (q := 94) dX2_put_91 gf_X2_26_2 (by assumption) rfl rfl ?_
    first | refine aw_aload_n (i := 0) (q := 95) dX2_put_94 rfl rfl rfl ?_ | refine aw_aloadN_n (i := 0) (q := 95) dX2_put_94 rfl rfl rfl ?_ | refine aw_aloadQ_n (i := 0) (q := 95) dX2_put_94 rfl rfl rfl ?_
    refine aw_getfield (q := 98) dX2_put_95 gf_X2_167_2 (by assumption) rfl rfl ?_
    refine aw_iload (q := 100) dX2_put_98 rfl rfl ?_
    refine aw_iadd (q := 101) dX2_put_100 rfl ?_
    refine aw_lload (q := 103) dX2_put_101 rfl rfl ?_
    refine aw_ldc2 (q := 106) dX2_put_103 q2282 rfl ?_
    refine aw_land (q := 107) dX2_put_106 rfl ?_
    refine aw_l2i (q := 108) dX2_put_107 rfl rfl ?_
    rw [show setK K 6 f 0 1 = nI R.2.2.1.1 from hr.2.2.2.2.2.1, zL_255 hlt, zL_i]
    have hix : nI R.2.2.1.1 + nI j = nI (R.2.2.1.1 + j) := nI_add _ _
    refine aw_iast (q := 109) (R.2.2.1.1 + j) dX2_put_108 h6 (by first | assumption | simp) (by first | assumption | (simp only [← nI_add, ← pk_mul]; rfl) | rfl) (by omega) (by omega) rfl (fun μ2 hg_μ2 => ?_)
    have h6 : μ2 _ = some _ := hg_μ2 ▸ updM_eq _ _ _
    obtain ⟨hT2, hk2⟩ := hT.1.st6 hg_μ2
    rw [setK_twice, setK_eq] at hT2
    refine aw_lload (q := 111) dX2_put_109 rfl rfl ?_
    refine aw_bipush (v := 8) (q := 113) dX2_put_111 rfl rfl ?_
    refine aw_lushr (q := 114) dX2_put_113 rfl rfl ?_
    refine aw_lstore (q := 116) dX2_put_114 (by decide) rfl ?_
    refine aw_iinc (q := 119) dX2_put_116 rfl (zdec _) (by decide) rfl ?_
    refine aw_goto (tgt := 85) dX2_put_119 (by decide) ?_
    rw [zL_8 hlt]
    exact aw_locals (by exact ⟨rfl, rfl, by rw [Nat.div_div_eq_div_mul, ← Nat.pow_succ, show (n - (j + 1)).succ = n - j by omega]; rfl, rfl, trivial⟩) (ih (by omega) μ2 _ (fun i hi => by (rw [pk_un (by omega)]; exact hf i hi)) (fun i h1 h2 => by (by_cases e : i = j; (subst e; rw [pk_us, show n - 1 - i = n - (i + 1) by omega]); (rw [pk_un (by omega)]; exact hg i (by omega) h2))) (hT.other hT2 (by rw [setK_ne (by decide), setK_ne (by decide)])) (hk.tr hk2))
theorem C2_put {x : Int64} (hS : zTS G μ m lam K P R) : Meets G 2 MX2_put [.ref m, .long x] μ (tPub0 G μ m lam (tPutC P R x)) 0 0 := by
  obtain ⟨hT, hr⟩ := hS
  have hm := hT.m
  obtain ⟨u0, hu0, rfl⟩ := zL_of x
  have e0 : tPutC P R (lN u0) = match tMany 8 u0 with
    | none => (P, R, -2)
    | some n => if n = 0 then (P, R, -2) else if 80 < R.2.2.1.1 + n then (P, R, -4) else (P, (R.1, R.2.1, (R.2.2.1.1 + n, tSigns u0 n R.2.2.1.1 R.2.2.1.2), R.2.2.2), nI (R.2.2.1.1 + n)) := by unfold tPutC; rw [zU_lN hu0]
  have hr6 := hr.2.2.2.2.2.2.1
  refine meets_of (by decide +kernel) (Nat.le_of_ble_eq_true rfl) ?_
  refine aw_iconst (v := 0) (q := 1) dX2_put_0 rfl rfl ?_
  refine aw_istore_n (i := 3) (q := 2) dX2_put_1 rfl (by decide) rfl ?_
  refine aw_lload_n (i := 1) (q := 3) dX2_put_2 rfl rfl rfl ?_
  refine aw_lstore (q := 5) dX2_put_3 (by decide) rfl ?_
  have loop : ∀ f u n, u < 256 ^ f → n + f = 8 → tMany 8 u0 = (tMany f u).map (· + n) → AW G 2 MX2_put (tPub0 G μ m lam (tPutC P R (lN u0))) 0 0 5 [(0, .ref m), (1, .long (lN u0)), (3, .int (nI n)), (4, .long (lN u))] [] μ := by
    intro f
    induction f with
    | zero =>
      intro u n hu hn he
      have hu2 : u = 0 := by have : u < 1 := hu; omega
      subst hu2
      have n8 : n = 8 := by omega
      subst n8
      have e8 : tMany 8 u0 = some 8 := he
      rw [e8] at e0
      refine aw_lload (q := 7) dX2_put_5 rfl rfl ?_
      refine aw_ldc2 (q := 10) dX2_put_7 q2282 rfl ?_
      refine aw_land (q := 11) dX2_put_10 rfl ?_
      refine aw_lconst (v := 0) (q := 12) dX2_put_11 rfl rfl ?_
      refine aw_lcmp (q := 13) dX2_put_12 rfl ?_
      rw [zL_255 (by decide)]
      refine aw_if_eq (tgt := 49) (q := 16) dX2_put_13 (by decide) rfl (fun _ => ?_) (fun hc => absurd ((zL_0 (by decide)).mpr rfl) hc)
      refine aw_lload (q := 51) dX2_put_49 rfl rfl ?_
      refine aw_lconst (v := 0) (q := 52) dX2_put_51 rfl rfl ?_
      refine aw_lcmp (q := 53) dX2_put_52 rfl ?_
      refine aw_if_ne (tgt := 60) (q := 56) dX2_put_53 (by decide) rfl (fun hc => absurd ((zL_0 (by decide)).mpr rfl) hc) (fun _ => ?_)
      refine aw_iload_n (i := 3) (q := 57) dX2_put_56 rfl rfl rfl ?_
      refine aw_if_ne (tgt := 63) (q := 60) dX2_put_57 (by decide) rfl (fun _ => ?_) (fun hc => absurd hc ((by decide)))
      first | refine aw_aload_n (i := 0) (q := 64) dX2_put_63 rfl rfl rfl ?_ | refine aw_aloadN_n (i := 0) (q := 64) dX2_put_63 rfl rfl rfl ?_ | refine aw_aloadQ_n (i := 0) (q := 64) dX2_put_63 rfl rfl rfl ?_
      refine aw_getfield (q := 67) dX2_put_64 gf_X2_167_2 (by assumption) rfl rfl ?_
      refine aw_iload_n (i := 3) (q := 68) dX2_put_67 rfl rfl rfl ?_
      refine aw_iadd (q := 69) dX2_put_68 rfl ?_
      refine aw_bipush (v := 80) (q := 71) dX2_put_69 rfl rfl ?_
      rw [hr.2.2.2.2.2.1]
      rw [show nI R.2.2.1.1 + nI 8 = nI (R.2.2.1.1 + 8) from nI_add _ _]
      by_cases h80 : 80 < R.2.2.1.1 + 8
      · refine aw_icmp_le (tgt := 77) (q := 74) dX2_put_71 (by decide) rfl (fun hc => absurd hc (nI_ge (a := 80) h80 (by omega))) (fun _ => ?_)
        refine aw_bipush (v := (-4)) (q := 76) dX2_put_74 rfl rfl ?_
        exact aw_ireturn dX2_put_76 rfl (by first | rfl | exact zB_nar _) (tPub0.same ⟨hT, hr⟩ (by rw [e0]; show (if _ then _ else if _ then _ else _) = _; rw [if_neg (by decide), if_pos h80]))
      · skip
        refine aw_icmp_le (tgt := 77) (q := 74) dX2_put_71 (by decide) rfl (fun _ => ?_) (fun hc => absurd (nI_le (b := 80) (by omega) (by omega)) hc)
        refine aw_lload_n (i := 1) (q := 78) dX2_put_77 rfl rfl rfl ?_
        refine aw_lstore (q := 80) dX2_put_78 (by decide) rfl ?_
        refine aw_iload_n (i := 3) (q := 81) dX2_put_80 rfl rfl rfl ?_
        refine aw_iconst (v := 1) (q := 82) dX2_put_81 rfl rfl ?_
        refine aw_isub (q := 83) dX2_put_82 rfl ?_
        refine aw_istore (q := 85) dX2_put_83 (by decide) rfl ?_
        exact aw_locals (by exact ⟨rfl, rfl, by simp; rfl, rfl, trivial⟩) (put_b (n := 8) hu0 (by omega) hr (by rw [e0]; show (if _ then _ else if _ then _ else _) = _; rw [if_neg (by decide), if_neg h80]) 8 (by omega) μ (K 6) (fun i hi => rfl) (fun i h1 h2 => by omega) (by rw [setK_self]; exact hT) zKp.rf)
    | succ f ih =>
      intro u n hu hn he
      have hu64 : u < 2 ^ 64 := by
        have h1 : 256 ^ (f + 1) ≤ 256 ^ 8 := Nat.pow_le_pow_right (by decide) (by omega)
        have h2 : (256 : Nat) ^ 8 = 2 ^ 64 := by decide
        omega
      have hmod : u % 256 < 256 := Nat.mod_lt _ (by decide)
      have et : tMany (f + 1) u = if u % 256 = 0 then (if u = 0 then some 0 else none) else if 33 ≤ u % 256 ∧ u % 256 ≤ 126 then (tMany f (u / 256)).map (· + 1) else none := rfl
      refine aw_lload (q := 7) dX2_put_5 rfl rfl ?_
      refine aw_ldc2 (q := 10) dX2_put_7 q2282 rfl ?_
      refine aw_land (q := 11) dX2_put_10 rfl ?_
      refine aw_lconst (v := 0) (q := 12) dX2_put_11 rfl rfl ?_
      refine aw_lcmp (q := 13) dX2_put_12 rfl ?_
      rw [zL_255 hu64]
      by_cases hz : u % 256 = 0
      · rw [if_pos hz] at et
        refine aw_if_eq (tgt := 49) (q := 16) dX2_put_13 (by decide) rfl (fun _ => ?_) (fun hc => absurd ((zL_0 (by omega)).mpr hz) hc)
        refine aw_lload (q := 51) dX2_put_49 rfl rfl ?_
        refine aw_lconst (v := 0) (q := 52) dX2_put_51 rfl rfl ?_
        refine aw_lcmp (q := 53) dX2_put_52 rfl ?_
        by_cases hu0' : u = 0
        · subst hu0'
          rw [if_pos rfl] at et
          rw [et] at he
          have en : tMany 8 u0 = some n := by rw [he]; simp
          rw [en] at e0
          refine aw_if_ne (tgt := 60) (q := 56) dX2_put_53 (by decide) rfl (fun hc => absurd ((zL_0 (by decide)).mpr rfl) hc) (fun _ => ?_)
          refine aw_iload_n (i := 3) (q := 57) dX2_put_56 rfl rfl rfl ?_
          by_cases hn0 : n = 0
          · subst hn0
            refine aw_if_ne (tgt := 63) (q := 60) dX2_put_57 (by decide) rfl (fun hc => absurd (rfl) hc) (fun _ => ?_)
            refine aw_bipush (v := (-2)) (q := 62) dX2_put_60 rfl rfl ?_
            exact aw_ireturn dX2_put_62 rfl (by first | rfl | exact zB_nar _) (tPub0.same ⟨hT, hr⟩ (by rw [e0]; exact if_pos rfl))
          · skip
            refine aw_if_ne (tgt := 63) (q := 60) dX2_put_57 (by decide) rfl (fun _ => ?_) (fun hc => absurd hc (nI_ne0 (by omega) (by omega)))
            first | refine aw_aload_n (i := 0) (q := 64) dX2_put_63 rfl rfl rfl ?_ | refine aw_aloadN_n (i := 0) (q := 64) dX2_put_63 rfl rfl rfl ?_ | refine aw_aloadQ_n (i := 0) (q := 64) dX2_put_63 rfl rfl rfl ?_
            refine aw_getfield (q := 67) dX2_put_64 gf_X2_167_2 (by assumption) rfl rfl ?_
            refine aw_iload_n (i := 3) (q := 68) dX2_put_67 rfl rfl rfl ?_
            refine aw_iadd (q := 69) dX2_put_68 rfl ?_
            refine aw_bipush (v := 80) (q := 71) dX2_put_69 rfl rfl ?_
            rw [hr.2.2.2.2.2.1, nI_add]
            by_cases h80 : 80 < R.2.2.1.1 + n
            · refine aw_icmp_le (tgt := 77) (q := 74) dX2_put_71 (by decide) rfl (fun hc => absurd hc (nI_ge (a := 80) h80 (by omega))) (fun _ => ?_)
              refine aw_bipush (v := (-4)) (q := 76) dX2_put_74 rfl rfl ?_
              exact aw_ireturn dX2_put_76 rfl (by first | rfl | exact zB_nar _) (tPub0.same ⟨hT, hr⟩ (by rw [e0]; show (if _ then _ else if _ then _ else _) = _; rw [if_neg hn0, if_pos h80]))
            · skip
              refine aw_icmp_le (tgt := 77) (q := 74) dX2_put_71 (by decide) rfl (fun _ => ?_) (fun hc => absurd (nI_le (b := 80) (by omega) (by omega)) hc)
              refine aw_lload_n (i := 1) (q := 78) dX2_put_77 rfl rfl rfl ?_
              refine aw_lstore (q := 80) dX2_put_78 (by decide) rfl ?_
              refine aw_iload_n (i := 3) (q := 81) dX2_put_80 rfl rfl rfl ?_
              refine aw_iconst (v := 1) (q := 82) dX2_put_81 rfl rfl ?_
              refine aw_isub (q := 83) dX2_put_82 rfl ?_
              refine aw_istore (q := 85) dX2_put_83 (by decide) rfl ?_
              exact aw_locals (by exact ⟨rfl, rfl, by simp; rfl, rfl, trivial⟩) (put_b (n := n) hu0 (by omega) hr (by rw [e0]; show (if _ then _ else if _ then _ else _) = _; rw [if_neg hn0, if_neg h80]) n (by omega) μ (K 6) (fun i hi => rfl) (fun i h1 h2 => by omega) (by rw [setK_self]; exact hT) zKp.rf)
        · rw [if_neg hu0'] at et
          rw [et] at he
          have en : tMany 8 u0 = none := he
          rw [en] at e0
          refine aw_if_ne (tgt := 60) (q := 56) dX2_put_53 (by decide) rfl (fun _ => ?_) (fun hc => absurd hc (fun q => hu0' ((zL_0 hu64).mp q)))
          refine aw_bipush (v := (-2)) (q := 62) dX2_put_60 rfl rfl ?_
          exact aw_ireturn dX2_put_62 rfl (by first | rfl | exact zB_nar _) (tPub0.same ⟨hT, hr⟩ e0)
      · rw [if_neg hz] at et
        refine aw_if_eq (tgt := 49) (q := 16) dX2_put_13 (by decide) rfl (fun hc => absurd hc (fun q => hz ((zL_0 (by omega)).mp q))) (fun _ => ?_)
        refine aw_lload (q := 18) dX2_put_16 rfl rfl ?_
        refine aw_ldc2 (q := 21) dX2_put_18 q2282 rfl ?_
        refine aw_land (q := 22) dX2_put_21 rfl ?_
        refine aw_l2i (q := 23) dX2_put_22 rfl rfl ?_
        refine aw_bipush (v := 33) (q := 25) dX2_put_23 rfl rfl ?_
        refine aw_bipush (v := 126) (q := 27) dX2_put_25 rfl rfl ?_
        rw [zL_255 hu64, zL_i]
        refine aw_callS (q := 30) dX2_put_27 (C2_in) cs_X2_49 rfl rfl (by decide) (by decide) (by first | exact Nat.le_of_ble_eq_true rfl | simp [zcat_rf, Value.category]) rfl (zpk ?_)
        refine aw_if_ne (tgt := 36) (q := 33) dX2_put_30 (by decide) rfl (fun hb => ?_) (fun hb => ?_)
        · refine aw_iinc (q := 39) dX2_put_36 rfl (by first | exact nI_1 _ | rfl) (by decide) rfl ?_
          refine aw_lload (q := 41) dX2_put_39 rfl rfl ?_
          refine aw_bipush (v := 8) (q := 43) dX2_put_41 rfl rfl ?_
          refine aw_lushr (q := 44) dX2_put_43 rfl rfl ?_
          refine aw_lstore (q := 46) dX2_put_44 (by decide) rfl ?_
          refine aw_goto (tgt := 5) dX2_put_46 (by decide) ?_
          have gb := zB_1 hb
          have g1 := (nI_leI (a := 33) (by omega) (by omega)).mp gb.1
          have g2 := (nI_leI (b := 126) (by omega) (by omega)).mp gb.2
          rw [if_pos ⟨g1, g2⟩] at et
          rw [zL_8 hu64]
          exact aw_locals (by exact ⟨rfl, rfl, rfl, rfl, trivial⟩) (ih (u / 256) (n + 1) (by rw [Nat.pow_succ] at hu; omega) (by omega) (by rw [he, et, Option.map_map]; congr 1; funext q; show q + 1 + n = q + (n + 1); omega))
        · refine aw_bipush (v := (-2)) (q := 35) dX2_put_33 rfl rfl ?_
          have nb : ¬ (33 ≤ u % 256 ∧ u % 256 ≤ 126) := fun h => zB_0 hb ⟨nI_le (a := 33) h.1 (by omega), nI_le (b := 126) h.2 (by omega)⟩
          rw [if_neg nb] at et
          rw [et] at he
          have en : tMany 8 u0 = none := he
          rw [en] at e0
          exact aw_ireturn dX2_put_35 rfl (by first | rfl | exact zB_nar _) (tPub0.same ⟨hT, hr⟩ e0)
  exact aw_locals (by exact ⟨rfl, rfl, rfl, rfl, trivial⟩) (loop 8 u0 0 (by have : (256 : Nat) ^ 8 = 2 ^ 64 := (by decide); omega) rfl (by simp))
end ZTW21
