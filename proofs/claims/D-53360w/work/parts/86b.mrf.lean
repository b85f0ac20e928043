/-! TREE NODES, part 3b: moveRootToFront -/
set_option maxRecDepth 100000
section ZMV
variable {G : zG} {μ : zM} {R o : Nat} {ν ky vl : Nat → Nat} {nx pa le ri pv : Nat → Option Nat} {rd : Nat → Int32} {B : Nat → Prop}
/-- the root goes to the front: the links -/
def zMnx (nx pv : Nat → Option Nat) (f rt : Nat) : Nat → Option Nat := va_up (match pv rt with
  | none => nx
  | some y => va_up nx y (nx rt)) rt (some f)
def zMpv (nx pv : Nat → Option Nat) (f rt : Nat) : Nat → Option Nat := va_up (va_up (match nx rt with
  | none => pv
  | some z => va_up pv z (pv rt)) f (some rt)) rt none
theorem zMv_pure {f rt : Nat} {l1 l2 : List Nat} (hc : zCh nx (f :: l1 ++ rt :: l2)) (hv : zPv pv none (f :: l1 ++ rt :: l2)) (hn : (f :: l1 ++ rt :: l2).Nodup) :
    zCh (zMnx nx pv f rt) (rt :: (f :: l1 ++ l2)) ∧ zPv (zMpv nx pv f rt) none (rt :: (f :: l1 ++ l2)) ∧ (∃ y, pv rt = some y ∧ y ∈ f :: l1) ∧ (nx rt = l2.head?) := by
  have hv2 := zPv.app.mp hv
  have hpr : pv rt = (f :: l1).getLast? := by
    have := hv2.2.1
    rw [this]
    cases hq : (f :: l1).getLast? with
    | none => simp at hq
    | some y => rfl
  obtain ⟨y, hy⟩ : ∃ y, (f :: l1).getLast? = some y := by
    cases hq : (f :: l1).getLast? with
    | none => simp at hq
    | some y => exact ⟨y, rfl⟩
  obtain ⟨l0, hl0⟩ := List.getLast?_eq_some_iff.mp hy
  have hn2 := List.nodup_append.mp hn
  have hnr := List.nodup_cons.mp hn2.2.1
  have nrt : ∀ x, x ∈ f :: l1 → x ≠ rt := fun x hx => hn2.2.2 x hx rt List.mem_cons_self
  have hyl : y ∈ f :: l1 := by rw [hl0]; exact List.mem_append_right _ List.mem_cons_self
  have hnx : nx rt = l2.head? := by
    have : ∀ l : List Nat, zCh nx (l ++ rt :: l2) → nx rt = l2.head? := by
      intro l
      induction l with
      | nil => intro h; exact h.1
      | cons x l ih => intro h; exact ih h.2
    exact this _ hc
  refine ⟨?_, ?_, ⟨y, hpr.trans hy, hyl⟩, hnx⟩
  · have h1 : zCh (va_up nx y (nx rt)) (f :: l1 ++ l2) := by
      have := hc
      rw [hl0, List.append_assoc] at this
      have hn3 := hn
      rw [hl0, List.append_assoc] at hn3
      have h2 := zCh.drop (l1 := l0) (x := y) (y := rt) (l2 := l2) this hn3
      rw [hl0, List.append_assoc]
      exact h2
    unfold zMnx
    rw [hpr, hy]
    refine ⟨by rw [va_up_self]; rfl, h1.congr (fun x hx => va_up_ne _ _ (fun e => ?_))⟩
    subst e
    rcases List.mem_append.mp hx with g | g
    · exact nrt x g rfl
    · exact hnr.1 g
  · unfold zMpv
    refine ⟨va_up_self _ _ _, ?_⟩
    have hf : f ≠ rt := nrt f List.mem_cons_self
    have hfl1 : f ∉ l1 := (List.nodup_cons.mp hn2.1).1
    have hfl2 : f ∉ l2 := fun e => hn2.2.2 f List.mem_cons_self f (List.mem_cons_of_mem _ e) rfl
    refine ⟨by rw [va_up_ne _ _ hf, va_up_self], ?_⟩
    have hsplit := zPv.app.mp (show zPv pv none (f :: l1 ++ rt :: l2) from hv)
    have ha : zPv pv (some f) l1 := hsplit.1.2
    have hb : zPv pv (some rt) l2 := hsplit.2.2
    refine zPv.app.mpr ⟨ha.congr (fun x hx => ?_), ?_⟩
    · have n1 : x ≠ rt := nrt x (List.mem_cons_of_mem _ hx)
      have n2 : x ≠ f := fun e => hfl1 (e ▸ hx)
      rw [va_up_ne _ _ n1, va_up_ne _ _ n2, hnx]
      cases l2 with
      | nil => rfl
      | cons z l2 =>
        have n3 : x ≠ z := hn2.2.2 x (List.mem_cons_of_mem _ hx) z (List.mem_cons_of_mem _ List.mem_cons_self)
        exact va_up_ne _ _ n3
    · have el : (l1.getLast?.or (some f)) = some y := by
        rw [← hy]
        cases l1 with
        | nil => rfl
        | cons u l =>
          rw [List.getLast?_cons_cons]
          cases hq : (u :: l).getLast? with
          | none => simp at hq
          | some z => rfl
      rw [el, hnx]
      cases l2 with
      | nil => trivial
      | cons z l2 =>
        have hz := List.nodup_cons.mp hnr.2
        have n1 : z ≠ rt := fun e => hnr.1 (e ▸ List.mem_cons_self)
        have n2 : z ≠ f := fun e => hfl2 (e ▸ List.mem_cons_self)
        refine ⟨?_, hb.2.congr (fun x hx => ?_)⟩
        · rw [va_up_ne _ _ n1, va_up_ne _ _ n2, hpr, hy]
          exact va_up_self _ _ _
        · have m1 : x ≠ rt := fun e => hnr.1 (e ▸ List.mem_cons_of_mem _ hx)
          have m2 : x ≠ f := fun e => hfl2 (e ▸ List.mem_cons_of_mem _ hx)
          have m3 : x ≠ z := fun e => hz.1 (e ▸ hx)
          rw [va_up_ne _ _ m1, va_up_ne _ _ m2]
          exact va_up_ne _ _ m3
/-- what moveRootToFront leaves: the bin's list is rearranged -/
def zMoved (G : zG) (μ : zM) (R o tb n i : Nat) (ν ky vl : Nat → Nat) (nx pa le ri pv : Nat → Option Nat) (rd : Nat → Int32) (B : Nat → Prop) (ft : Nat → Option Nat) (l : List Nat) : Option Value → zM → Prop := fun v μ' => v = none ∧ ∃ (nx' pv' : Nat → Option Nat) (l' : List Nat), zTn μ' R o ν ky vl nx' pa le ri pv' rd B ∧ μ' tb = some (hbT R o, aN G n (va_up ft i (l'.head?.map ν))) ∧ zCh nx' l' ∧ zPv pv' none l' ∧ l'.Nodup ∧ (∀ x, x ∈ l' ↔ x ∈ l) ∧ (∀ x, x ∉ l → nx' x = nx x ∧ pv' x = pv x) ∧ zKp (fun c u => c = tb ∨ ∃ h, h ∈ l ∧ u = hnT R o h) μ μ'
set_option maxHeartbeats 8000000 in
theorem C_moveRootToFront {tb n k rt : Nat} {ft : Nat → Option Nat} {l : List Nat} (hT : zTn μ R o ν ky vl nx pa le ri pv rd B) (hl : ∀ x, x ∈ l → B x) (hrt : rt ∈ l) (htb : μ tb = some (hbT R o, aN G n ft)) (hn : 2 ^ k = n) (hk : k ≤ 8) (hhd : ft (rt % n) = l.head?.map ν) (hc : zCh nx l) (hv : zPv pv none l) (hnd : l.Nodup) (hR : 1 ≤ R) : Meets G 1 MJ23_moveRootToFront [.ref tb, .ref (ν rt)] μ (zMoved G μ R o tb n (rt % n) ν ky vl nx pa le ri pv rd B ft l) 0 0 := by
  have hn256 : n ≤ 2 ^ 8 := hn ▸ Nat.pow_le_pow_right (by decide) hk
  have hn0 : 0 < n := hn ▸ Nat.two_pow_pos k
  have hBr := hl rt hrt
  obtain ⟨hr8, hr1⟩ := hT rt hBr
  have hmod : rt % n < n := Nat.mod_lt _ hn0
  have htz : hbT R o ≠ zC := fun e => by have e1 : R + 1 = 0 := congrArg Prod.fst e; omega
  obtain ⟨l1, l2, hl12⟩ := List.append_of_mem hrt
  have tbne : ∀ x, B x → ν x ≠ tb := fun x hx => zneq (hT x hx).2 htb (by simp)
  refine meets_of (by decide +kernel) (Nat.le_of_ble_eq_true rfl) ?_
  first | refine aw_aload_n (i := 1) (q := 1) dJ23_moveRootToFront_0 rfl rfl rfl ?_ | refine aw_aloadN_n (i := 1) (q := 1) dJ23_moveRootToFront_0 rfl rfl rfl ?_ | refine aw_aloadQ_n (i := 1) (q := 1) dJ23_moveRootToFront_0 rfl rfl rfl ?_
  refine aw_ifnull_r (q := 4) dJ23_moveRootToFront_1 rfl ?_
  first | refine aw_aload_n (i := 0) (q := 5) dJ23_moveRootToFront_4 rfl rfl rfl ?_ | refine aw_aloadN_n (i := 0) (q := 5) dJ23_moveRootToFront_4 rfl rfl rfl ?_ | refine aw_aloadQ_n (i := 0) (q := 5) dJ23_moveRootToFront_4 rfl rfl rfl ?_
  refine aw_ifnull_r (q := 8) dJ23_moveRootToFront_5 rfl ?_
  first | refine aw_aload_n (i := 0) (q := 9) dJ23_moveRootToFront_8 rfl rfl rfl ?_ | refine aw_aloadN_n (i := 0) (q := 9) dJ23_moveRootToFront_8 rfl rfl rfl ?_ | refine aw_aloadQ_n (i := 0) (q := 9) dJ23_moveRootToFront_8 rfl rfl rfl ?_
  first | refine aw_alenI (q := 10) dJ23_moveRootToFront_9 (by assumption) rfl ?_ | refine aw_alenO (q := 10) dJ23_moveRootToFront_9 (by assumption) rfl ?_ | refine aw_alenN (q := 10) dJ23_moveRootToFront_9 (by assumption) rfl ?_ | refine aw_alenB (q := 10) dJ23_moveRootToFront_9 (by assumption) rfl ?_ | refine aw_alenP (q := 10) dJ23_moveRootToFront_9 (by assumption) rfl ?_
  refine aw_dup (q := 11) dJ23_moveRootToFront_10 (by first | rfl | exact zcat_rf _) rfl ?_
  refine aw_istore_n (i := 2) (q := 12) dJ23_moveRootToFront_11 rfl (by decide) rfl ?_
  refine aw_if_le (tgt := 123) (q := 15) dJ23_moveRootToFront_12 (by decide) rfl (fun hZ => absurd hZ ((fun q => nI_nle hn0 (by omega) q))) (fun _ => ?_)
  refine aw_iload_n (i := 2) (q := 16) dJ23_moveRootToFront_15 rfl rfl rfl ?_
  refine aw_iconst (v := 1) (q := 17) dJ23_moveRootToFront_16 rfl rfl ?_
  refine aw_isub (q := 18) dJ23_moveRootToFront_17 rfl ?_
  first | refine aw_aload_n (i := 1) (q := 19) dJ23_moveRootToFront_18 rfl rfl rfl ?_ | refine aw_aloadN_n (i := 1) (q := 19) dJ23_moveRootToFront_18 rfl rfl rfl ?_ | refine aw_aloadQ_n (i := 1) (q := 19) dJ23_moveRootToFront_18 rfl rfl rfl ?_
  first | refine aw_getfield (q := 22) dJ23_moveRootToFront_19 gf_J23_15_13 (by assumption) rfl rfl ?_ | refine aw_getfield (q := 22) dJ23_moveRootToFront_19 gf_J23_15_15 (by assumption) rfl rfl ?_ | refine aw_nd (i := 0) (q := 22) dJ23_moveRootToFront_19 gf_J23_15_13 gf_J23_15_15 (by assumption) rfl rfl ?_
  refine aw_iand (q := 23) dJ23_moveRootToFront_22 rfl ?_
  refine aw_istore_n (i := 3) (q := 24) dJ23_moveRootToFront_23 rfl (by decide) rfl ?_
  first | refine aw_aload_n (i := 0) (q := 25) dJ23_moveRootToFront_24 rfl rfl rfl ?_ | refine aw_aloadN_n (i := 0) (q := 25) dJ23_moveRootToFront_24 rfl rfl rfl ?_ | refine aw_aloadQ_n (i := 0) (q := 25) dJ23_moveRootToFront_24 rfl rfl rfl ?_
  refine aw_iload_n (i := 3) (q := 26) dJ23_moveRootToFront_25 rfl rfl rfl ?_
  rw [show nI n - 1 = nI (n - 1) by rw [show n = (n - 1) + 1 by omega]; exact nI_pred _, i_mask hn (by omega) (by omega)]
  cases l1 with
  | nil =>
    have e1 : ft (rt % n) = some (ν rt) := by rw [hhd, hl12]; rfl
    first | refine aw_aaldO (q := 27) (v := some (ν rt)) (rt % n) dJ23_moveRootToFront_26 (by assumption) (by first | assumption | (simp only [← nI_add, ← pk_mul]; rfl) | rfl) (by omega) (by omega) (e1) rfl ?_ | refine aw_aaldP (q := 27) (v := some (ν rt)) (rt % n) dJ23_moveRootToFront_26 (by assumption) (by first | assumption | (simp only [← nI_add, ← pk_mul]; rfl) | rfl) (by omega) (by omega) (e1) rfl ?_ | refine aw_aaldN (q := 27) (v := some (ν rt)) (rt % n) dJ23_moveRootToFront_26 (by assumption) (by first | assumption | (simp only [← nI_add, ← pk_mul]; rfl) | rfl) (by omega) (by omega) (e1) rfl ?_
    refine aw_cast (q := 30) dJ23_moveRootToFront_27 q744 hr1 ca_15_J23 rfl ?_
    first | refine aw_astore (q := 32) dJ23_moveRootToFront_30 (by decide) rfl ?_ | refine aw_astoreN (q := 32) dJ23_moveRootToFront_30 (by decide) rfl ?_ | refine aw_astoreQ (q := 32) dJ23_moveRootToFront_30 (by decide) rfl ?_
    first | refine aw_aload_n (i := 1) (q := 33) dJ23_moveRootToFront_32 rfl rfl rfl ?_ | refine aw_aloadN_n (i := 1) (q := 33) dJ23_moveRootToFront_32 rfl rfl rfl ?_ | refine aw_aloadQ_n (i := 1) (q := 33) dJ23_moveRootToFront_32 rfl rfl rfl ?_
    first | refine aw_aload (q := 35) dJ23_moveRootToFront_33 rfl rfl ?_ | refine aw_aloadN (q := 35) dJ23_moveRootToFront_33 rfl rfl ?_ | refine aw_aloadQ (q := 35) dJ23_moveRootToFront_33 rfl rfl ?_
    first | refine aw_acmpR_eq (tgt := 102) (q := 38) dJ23_moveRootToFront_35 (by decide) rfl (fun _ => ?_) (fun hZ => absurd (rfl) hZ)
    refine aw_getstatic (v := .int 1) (q := 105) dJ23_moveRootToFront_102 gs_J23_26 (by simp [zStL]) rfl ?_
    refine aw_if_ne (tgt := 123) (q := 108) dJ23_moveRootToFront_105 (by decide) rfl (fun _ => ?_) (fun hZ => absurd hZ ((by decide)))
    exact aw_return dJ23_moveRootToFront_123 rfl (by refine ⟨rfl, nx, pv, l, hT, ?_, hc, hv, hnd, fun x => Iff.rfl, fun x _ => ⟨rfl, rfl⟩, zKp.rf⟩; (have e2 : va_up ft (rt % n) (l.head?.map ν) = ft := (by funext j; by_cases e : j = rt % n; (subst e; rw [va_up_self, hhd]); exact va_up_ne _ _ e)); rw [e2]; exact htb)
  | cons f l1 =>
    have hl12 : l = f :: l1 ++ rt :: l2 := hl12
    have e1 : ft (rt % n) = some (ν f) := by rw [hhd, hl12]; rfl
    have hfl : f ∈ l := by rw [hl12]; exact List.mem_append_left _ List.mem_cons_self
    have hBf := hl f hfl
    obtain ⟨q1, q2, ⟨y, hy, hyl⟩, q4⟩ := zMv_pure (nx := nx) (pv := pv) (f := f) (rt := rt) (l1 := l1) (l2 := l2) (hl12 ▸ hc) (hl12 ▸ hv) (hl12 ▸ hnd)
    have hyL : y ∈ l := by rw [hl12]; exact List.mem_append_left _ hyl
    have hBy := hl y hyL
    have nfr : f ≠ rt := by
      have := hnd
      rw [hl12] at this
      exact (List.nodup_append.mp this).2.2 f List.mem_cons_self rt List.mem_cons_self
    have hf1 := (hT f hBf).2
    have fin : ∀ (μ3 : zM) (nx3 pv3 : Nat → Option Nat), zTn μ3 R o ν ky vl nx3 pa le ri pv3 rd B → μ3 tb = some (hbT R o, aN G n (va_up ft (rt % n) (some (ν rt)))) → va_up nx3 rt (some f) = zMnx nx pv f rt → va_up (va_up pv3 f (some rt)) rt none = zMpv nx pv f rt → (∀ x, x ∉ l → nx3 x = nx x ∧ pv3 x = pv x) → zKp (fun c u => c = tb ∨ ∃ h, h ∈ l ∧ u = hnT R o h) μ μ3 → AW G 1 MJ23_moveRootToFront (zMoved G μ R o tb n (rt % n) ν ky vl nx pa le ri pv rd B ft l) 0 0 80 [(1, .ref (ν rt)), (4, .ref (ν f))] [] μ3 := by
      intro μ3 nx3 pv3 hT3 htb3 e1 e2 e3 hk3
      have hf3 := (hT3 f hBf).2
      first | refine aw_aload (q := 82) dJ23_moveRootToFront_80 rfl rfl ?_ | refine aw_aloadN (q := 82) dJ23_moveRootToFront_80 rfl rfl ?_ | refine aw_aloadQ (q := 82) dJ23_moveRootToFront_80 rfl rfl ?_
      refine aw_ifnull_r (q := 85) dJ23_moveRootToFront_82 rfl ?_
      first | refine aw_aload (q := 87) dJ23_moveRootToFront_85 rfl rfl ?_ | refine aw_aloadN (q := 87) dJ23_moveRootToFront_85 rfl rfl ?_ | refine aw_aloadQ (q := 87) dJ23_moveRootToFront_85 rfl rfl ?_
      first | refine aw_aload_n (i := 1) (q := 88) dJ23_moveRootToFront_87 rfl rfl rfl ?_ | refine aw_aloadN_n (i := 1) (q := 88) dJ23_moveRootToFront_87 rfl rfl rfl ?_ | refine aw_aloadQ_n (i := 1) (q := 88) dJ23_moveRootToFront_87 rfl rfl rfl ?_
      refine aw_putfield (q := 91) dJ23_moveRootToFront_88 gf_J23_19_15 hf3 (by first | assumption | simp) (by first | rfl | exact znar_rf _ _ | exact zB_nar _) (by first | rfl | exact zfit_rf _ _ | exact zB_fit _) (Nat.le_of_ble_eq_true rfl) rfl (fun μ4 hg_μ4 => ?_)
      have hf3 : μ4 _ = some _ := hg_μ4 ▸ updM_eq _ _ _
      simp only [List.set] at hf3 hg_μ4
      obtain ⟨hT4, hk4⟩ := hT3.p_pv hBf (some rt) hg_μ4
      have htb4 : μ4 tb = _ := hg_μ4 ▸ (updM_ne (Ne.symm (tbne f hBf))).trans htb3
      have hr4 := (hT4 rt hBr).2
      first | refine aw_aload_n (i := 1) (q := 92) dJ23_moveRootToFront_91 rfl rfl rfl ?_ | refine aw_aloadN_n (i := 1) (q := 92) dJ23_moveRootToFront_91 rfl rfl rfl ?_ | refine aw_aloadQ_n (i := 1) (q := 92) dJ23_moveRootToFront_91 rfl rfl rfl ?_
      first | refine aw_aload (q := 94) dJ23_moveRootToFront_92 rfl rfl ?_ | refine aw_aloadN (q := 94) dJ23_moveRootToFront_92 rfl rfl ?_ | refine aw_aloadQ (q := 94) dJ23_moveRootToFront_92 rfl rfl ?_
      first | refine aw_putfield (q := 97) dJ23_moveRootToFront_94 gf_J23_22_13 hr4 (by first | assumption | simp) (by first | rfl | exact znar_rf _ _ | exact zB_nar _) (by first | rfl | exact zfit_rf _ _ | exact zB_fit _) (Nat.le_of_ble_eq_true rfl) rfl (fun μ5 hg_μ5 => ?_) | refine aw_putfield (q := 97) dJ23_moveRootToFront_94 gf_J23_22_15 hr4 (by first | assumption | simp) (by first | rfl | exact znar_rf _ _ | exact zB_nar _) (by first | rfl | exact zfit_rf _ _ | exact zB_fit _) (Nat.le_of_ble_eq_true rfl) rfl (fun μ5 hg_μ5 => ?_)
      have hr4 : μ5 _ = some _ := hg_μ5 ▸ updM_eq _ _ _
      simp only [List.set] at hr4 hg_μ5
      obtain ⟨hT5, hk5⟩ := hT4.p_nx hBr (some f) hg_μ5
      have htb5 : μ5 tb = _ := hg_μ5 ▸ (updM_ne (Ne.symm (tbne rt hBr))).trans htb4
      have hr5 := (hT5 rt hBr).2
      first | refine aw_aload_n (i := 1) (q := 98) dJ23_moveRootToFront_97 rfl rfl rfl ?_ | refine aw_aloadN_n (i := 1) (q := 98) dJ23_moveRootToFront_97 rfl rfl rfl ?_ | refine aw_aloadQ_n (i := 1) (q := 98) dJ23_moveRootToFront_97 rfl rfl rfl ?_
      refine aw_null (q := 99) dJ23_moveRootToFront_98 rfl ?_
      refine aw_putfield (q := 102) dJ23_moveRootToFront_99 gf_J23_19_15 hr5 (by first | assumption | simp) (by first | rfl | exact znar_rf _ _ | exact zB_nar _) (by first | rfl | exact zfit_rf _ _ | exact zB_fit _) (Nat.le_of_ble_eq_true rfl) rfl (fun μ6 hg_μ6 => ?_)
      have hr5 : μ6 _ = some _ := hg_μ6 ▸ updM_eq _ _ _
      simp only [List.set] at hr5 hg_μ6
      obtain ⟨hT6, hk6⟩ := hT5.p_pv hBr none hg_μ6
      have htb6 : μ6 tb = _ := hg_μ6 ▸ (updM_ne (Ne.symm (tbne rt hBr))).trans htb5
      rw [e1, e2] at hT6
      have hkk : zKp (fun c u => c = tb ∨ ∃ h, h ∈ l ∧ u = hnT R o h) μ μ6 := by
        have q4 : zKp (fun c u => c = tb ∨ ∃ h, h ∈ l ∧ u = hnT R o h) μ3 μ4 := by rw [hg_μ4]; exact zKp.put (hT3 f hBf).2 (Or.inr ⟨f, hfl, rfl⟩)
        have q5 : zKp (fun c u => c = tb ∨ ∃ h, h ∈ l ∧ u = hnT R o h) μ4 μ5 := by rw [hg_μ5]; exact zKp.put (hT4 rt hBr).2 (Or.inr ⟨rt, hrt, rfl⟩)
        have q6 : zKp (fun c u => c = tb ∨ ∃ h, h ∈ l ∧ u = hnT R o h) μ5 μ6 := by rw [hg_μ6]; exact zKp.put (hT5 rt hBr).2 (Or.inr ⟨rt, hrt, rfl⟩)
        exact ((hk3.tr q4).tr q5).tr q6
      have hmem : ∀ x, x ∈ rt :: (f :: l1 ++ l2) ↔ x ∈ l := by
        intro x
        rw [hl12]
        simp only [List.mem_cons, List.mem_append]
        constructor
        · rintro (h | (h | h) | h) <;> simp [h]
        · rintro ((h | h) | h | h) <;> simp [h]
      have hnd2 : (rt :: (f :: l1 ++ l2)).Nodup := by
        have h := hnd
        rw [hl12] at h
        obtain ⟨g1, g2, g3⟩ := List.nodup_append.mp h
        obtain ⟨g4, g5⟩ := List.nodup_cons.mp g2
        refine List.nodup_cons.mpr ⟨fun e => ?_, List.nodup_append.mpr ⟨g1, g5, fun x hx z hz => g3 x hx z (List.mem_cons_of_mem _ hz)⟩⟩
        rcases List.mem_append.mp e with e | e
        · exact g3 rt e rt List.mem_cons_self rfl
        · exact g4 e
      have hout : ∀ x, x ∉ l → zMnx nx pv f rt x = nx x ∧ zMpv nx pv f rt x = pv x := by
        intro x hx
        have n1 : x ≠ rt := fun e => hx (e ▸ hrt)
        have n2 : x ≠ f := fun e => hx (e ▸ hfl)
        rw [← e1, ← e2, va_up_ne _ _ n1, va_up_ne _ _ n1, va_up_ne _ _ n2]
        exact e3 x hx
      refine aw_getstatic (v := .int 1) (q := 105) dJ23_moveRootToFront_102 gs_J23_26 (by simp [zStL]) rfl ?_
      refine aw_if_ne (tgt := 123) (q := 108) dJ23_moveRootToFront_105 (by decide) rfl (fun _ => ?_) (fun hZ => absurd hZ ((by decide)))
      exact aw_return dJ23_moveRootToFront_123 rfl (⟨rfl, _, _, rt :: (f :: l1 ++ l2), hT6, htb6, q1, q2, hnd2, hmem, hout, hkk⟩)
    first | refine aw_aaldO (q := 27) (v := some (ν f)) (rt % n) dJ23_moveRootToFront_26 (by assumption) (by first | assumption | (simp only [← nI_add, ← pk_mul]; rfl) | rfl) (by omega) (by omega) (e1) rfl ?_ | refine aw_aaldP (q := 27) (v := some (ν f)) (rt % n) dJ23_moveRootToFront_26 (by assumption) (by first | assumption | (simp only [← nI_add, ← pk_mul]; rfl) | rfl) (by omega) (by omega) (e1) rfl ?_ | refine aw_aaldN (q := 27) (v := some (ν f)) (rt % n) dJ23_moveRootToFront_26 (by assumption) (by first | assumption | (simp only [← nI_add, ← pk_mul]; rfl) | rfl) (by omega) (by omega) (e1) rfl ?_
    refine aw_cast (q := 30) dJ23_moveRootToFront_27 q744 hf1 ca_15_J23 rfl ?_
    first | refine aw_astore (q := 32) dJ23_moveRootToFront_30 (by decide) rfl ?_ | refine aw_astoreN (q := 32) dJ23_moveRootToFront_30 (by decide) rfl ?_ | refine aw_astoreQ (q := 32) dJ23_moveRootToFront_30 (by decide) rfl ?_
    first | refine aw_aload_n (i := 1) (q := 33) dJ23_moveRootToFront_32 rfl rfl rfl ?_ | refine aw_aloadN_n (i := 1) (q := 33) dJ23_moveRootToFront_32 rfl rfl rfl ?_ | refine aw_aloadQ_n (i := 1) (q := 33) dJ23_moveRootToFront_32 rfl rfl rfl ?_
    first | refine aw_aload (q := 35) dJ23_moveRootToFront_33 rfl rfl ?_ | refine aw_aloadN (q := 35) dJ23_moveRootToFront_33 rfl rfl ?_ | refine aw_aloadQ (q := 35) dJ23_moveRootToFront_33 rfl rfl ?_
    first | refine aw_acmpR_eq (tgt := 102) (q := 38) dJ23_moveRootToFront_35 (by decide) rfl (fun hZ => absurd hZ ((fun q => nfr ((hT.inj hBr hBf).mp q).symm))) (fun _ => ?_)
    first | refine aw_aload_n (i := 0) (q := 39) dJ23_moveRootToFront_38 rfl rfl rfl ?_ | refine aw_aloadN_n (i := 0) (q := 39) dJ23_moveRootToFront_38 rfl rfl rfl ?_ | refine aw_aloadQ_n (i := 0) (q := 39) dJ23_moveRootToFront_38 rfl rfl rfl ?_
    refine aw_iload_n (i := 3) (q := 40) dJ23_moveRootToFront_39 rfl rfl rfl ?_
    first | refine aw_aload_n (i := 1) (q := 41) dJ23_moveRootToFront_40 rfl rfl rfl ?_ | refine aw_aloadN_n (i := 1) (q := 41) dJ23_moveRootToFront_40 rfl rfl rfl ?_ | refine aw_aloadQ_n (i := 1) (q := 41) dJ23_moveRootToFront_40 rfl rfl rfl ?_
    refine aw_aastX (j := 5) (E := "java/util/HashMap$Node") (rt % n) (q := 42) dJ23_moveRootToFront_41 rfl htb htz hr1 ca_15_J18 rfl hmod (by omega) rfl (fun μ1 hg_μ1 => ?_)
    have hk1 : zKp (fun c u => c = tb ∨ ∃ h, h ∈ l ∧ u = hnT R o h) μ μ1 := hg_μ1 ▸ zKp.put htb (Or.inl rfl)
    have hT1 : zTn μ1 R o ν ky vl nx pa le ri pv rd B := fun x hx => ⟨(hT x hx).1, hg_μ1 ▸ (updM_ne (tbne x hx)).trans (hT x hx).2⟩
    have htb1 : μ1 tb = some _ := hg_μ1 ▸ updM_eq _ _ _
    have hr2 := (hT1 rt hBr).2
    rw [hy] at hr2
    simp only [Option.map_some, zrf_s] at hr2
    obtain ⟨z0, hz0⟩ : ∃ z, nx rt = z := ⟨_, rfl⟩
    rw [hz0] at hr2
    cases z0 with
    | none =>
      simp only [Option.map_none, zrf_n] at hr2
      first | refine aw_aload_n (i := 1) (q := 43) dJ23_moveRootToFront_42 rfl rfl rfl ?_ | refine aw_aloadN_n (i := 1) (q := 43) dJ23_moveRootToFront_42 rfl rfl rfl ?_ | refine aw_aloadQ_n (i := 1) (q := 43) dJ23_moveRootToFront_42 rfl rfl rfl ?_
      refine aw_getfield (q := 46) dJ23_moveRootToFront_43 gf_J23_19_15 (by assumption) rfl rfl ?_
      first | refine aw_astore (q := 48) dJ23_moveRootToFront_46 (by decide) rfl ?_ | refine aw_astoreN (q := 48) dJ23_moveRootToFront_46 (by decide) rfl ?_ | refine aw_astoreQ (q := 48) dJ23_moveRootToFront_46 (by decide) rfl ?_
      try simp only [zput, zdel_q]
      first | refine aw_aload_n (i := 1) (q := 49) dJ23_moveRootToFront_48 rfl rfl rfl ?_ | refine aw_aloadN_n (i := 1) (q := 49) dJ23_moveRootToFront_48 rfl rfl rfl ?_ | refine aw_aloadQ_n (i := 1) (q := 49) dJ23_moveRootToFront_48 rfl rfl rfl ?_
      first | refine aw_getfield (q := 52) dJ23_moveRootToFront_49 gf_J23_22_13 (by assumption) rfl rfl ?_ | refine aw_getfield (q := 52) dJ23_moveRootToFront_49 gf_J23_22_15 (by assumption) rfl rfl ?_ | refine aw_nd (i := 3) (q := 52) dJ23_moveRootToFront_49 gf_J23_22_13 gf_J23_22_15 (by assumption) rfl rfl ?_
      refine aw_dup (q := 53) dJ23_moveRootToFront_52 (by first | rfl | exact zcat_rf _) rfl ?_
      first | refine aw_astore (q := 55) dJ23_moveRootToFront_53 (by decide) rfl ?_ | refine aw_astoreN (q := 55) dJ23_moveRootToFront_53 (by decide) rfl ?_ | refine aw_astoreQ (q := 55) dJ23_moveRootToFront_53 (by decide) rfl ?_
      try simp only [zput, zdel_q]
      refine aw_ifnull_n (tgt := 68) dJ23_moveRootToFront_55 (by decide) ?_
      have hy1 := (hT1 y hBy).2
      first | refine aw_aload (q := 70) dJ23_moveRootToFront_68 rfl rfl ?_ | refine aw_aloadN (q := 70) dJ23_moveRootToFront_68 rfl rfl ?_ | refine aw_aloadQ (q := 70) dJ23_moveRootToFront_68 rfl rfl ?_
      refine aw_ifnull_r (q := 73) dJ23_moveRootToFront_70 rfl ?_
      first | refine aw_aload (q := 75) dJ23_moveRootToFront_73 rfl rfl ?_ | refine aw_aloadN (q := 75) dJ23_moveRootToFront_73 rfl rfl ?_ | refine aw_aloadQ (q := 75) dJ23_moveRootToFront_73 rfl rfl ?_
      first | refine aw_aload (q := 77) dJ23_moveRootToFront_75 rfl rfl ?_ | refine aw_aloadN (q := 77) dJ23_moveRootToFront_75 rfl rfl ?_ | refine aw_aloadQ (q := 77) dJ23_moveRootToFront_75 rfl rfl ?_
      first | refine aw_putfield (q := 80) dJ23_moveRootToFront_77 gf_J23_22_13 hy1 (by first | assumption | simp) (by first | rfl | exact znar_rf _ _ | exact zB_nar _) (by first | rfl | exact zfit_rf _ _ | exact zB_fit _) (Nat.le_of_ble_eq_true rfl) rfl (fun μ3 hg_μ3 => ?_) | refine aw_putfield (q := 80) dJ23_moveRootToFront_77 gf_J23_22_15 hy1 (by first | assumption | simp) (by first | rfl | exact znar_rf _ _ | exact zB_nar _) (by first | rfl | exact zfit_rf _ _ | exact zB_fit _) (Nat.le_of_ble_eq_true rfl) rfl (fun μ3 hg_μ3 => ?_)
      have hy1 : μ3 _ = some _ := hg_μ3 ▸ updM_eq _ _ _
      simp only [List.set] at hy1 hg_μ3
      obtain ⟨hT3, hk3⟩ := hT1.p_nx hBy none hg_μ3
      have htb3 : μ3 tb = _ := hg_μ3 ▸ (updM_ne (Ne.symm (tbne y hBy))).trans htb1
      have hkk : zKp (fun c u => c = tb ∨ ∃ h, h ∈ l ∧ u = hnT R o h) μ μ3 := hk1.tr (hg_μ3 ▸ zKp.put (hT1 y hBy).2 (Or.inr ⟨y, hyL, rfl⟩))
      exact AW.bud (aw_locals (by exact ⟨rfl, rfl, trivial⟩) (fin μ3 _ pv hT3 htb3 (by (unfold zMnx; rw [hy, hz0])) (by (unfold zMpv; rw [hz0])) (fun x hx => ⟨va_up_ne _ _ (fun e => hx (e ▸ hyL)), rfl⟩) hkk)) (by omega) (by omega)
    | some z =>
      have hzl2 : z ∈ l2 := by rw [hz0] at q4; exact List.mem_of_mem_head? q4.symm
      have hzL : z ∈ l := by rw [hl12]; exact List.mem_append_right _ (List.mem_cons_of_mem _ hzl2)
      have hBz := hl z hzL
      have hz1 := (hT1 z hBz).2
      simp only [Option.map_some, zrf_s] at hr2
      first | refine aw_aload_n (i := 1) (q := 43) dJ23_moveRootToFront_42 rfl rfl rfl ?_ | refine aw_aloadN_n (i := 1) (q := 43) dJ23_moveRootToFront_42 rfl rfl rfl ?_ | refine aw_aloadQ_n (i := 1) (q := 43) dJ23_moveRootToFront_42 rfl rfl rfl ?_
      refine aw_getfield (q := 46) dJ23_moveRootToFront_43 gf_J23_19_15 (by assumption) rfl rfl ?_
      first | refine aw_astore (q := 48) dJ23_moveRootToFront_46 (by decide) rfl ?_ | refine aw_astoreN (q := 48) dJ23_moveRootToFront_46 (by decide) rfl ?_ | refine aw_astoreQ (q := 48) dJ23_moveRootToFront_46 (by decide) rfl ?_
      try simp only [zput, zdel_q]
      first | refine aw_aload_n (i := 1) (q := 49) dJ23_moveRootToFront_48 rfl rfl rfl ?_ | refine aw_aloadN_n (i := 1) (q := 49) dJ23_moveRootToFront_48 rfl rfl rfl ?_ | refine aw_aloadQ_n (i := 1) (q := 49) dJ23_moveRootToFront_48 rfl rfl rfl ?_
      first | refine aw_getfield (q := 52) dJ23_moveRootToFront_49 gf_J23_22_13 (by assumption) rfl rfl ?_ | refine aw_getfield (q := 52) dJ23_moveRootToFront_49 gf_J23_22_15 (by assumption) rfl rfl ?_ | refine aw_nd (i := 3) (q := 52) dJ23_moveRootToFront_49 gf_J23_22_13 gf_J23_22_15 (by assumption) rfl rfl ?_
      refine aw_dup (q := 53) dJ23_moveRootToFront_52 (by first | rfl | exact zcat_rf _) rfl ?_
      first | refine aw_astore (q := 55) dJ23_moveRootToFront_53 (by decide) rfl ?_ | refine aw_astoreN (q := 55) dJ23_moveRootToFront_53 (by decide) rfl ?_ | refine aw_astoreQ (q := 55) dJ23_moveRootToFront_53 (by decide) rfl ?_
      try simp only [zput, zdel_q]
      refine aw_ifnull_r (q := 58) dJ23_moveRootToFront_55 rfl ?_
      first | refine aw_aload (q := 60) dJ23_moveRootToFront_58 rfl rfl ?_ | refine aw_aloadN (q := 60) dJ23_moveRootToFront_58 rfl rfl ?_ | refine aw_aloadQ (q := 60) dJ23_moveRootToFront_58 rfl rfl ?_
      refine aw_cast (q := 63) dJ23_moveRootToFront_60 q744 hz1 ca_15_J23 rfl ?_
      first | refine aw_aload (q := 65) dJ23_moveRootToFront_63 rfl rfl ?_ | refine aw_aloadN (q := 65) dJ23_moveRootToFront_63 rfl rfl ?_ | refine aw_aloadQ (q := 65) dJ23_moveRootToFront_63 rfl rfl ?_
      refine aw_putfield (q := 68) dJ23_moveRootToFront_65 gf_J23_19_15 hz1 (by first | assumption | simp) (by first | rfl | exact znar_rf _ _ | exact zB_nar _) (by first | rfl | exact zfit_rf _ _ | exact zB_fit _) (Nat.le_of_ble_eq_true rfl) rfl (fun μ2 hg_μ2 => ?_)
      have hz1 : μ2 _ = some _ := hg_μ2 ▸ updM_eq _ _ _
      simp only [List.set] at hz1 hg_μ2
      obtain ⟨hT2, hk2⟩ := hT1.p_pv hBz (some y) hg_μ2
      have htb2 : μ2 tb = _ := hg_μ2 ▸ (updM_ne (Ne.symm (tbne z hBz))).trans htb1
      have hk2' : zKp (fun c u => c = tb ∨ ∃ h, h ∈ l ∧ u = hnT R o h) μ μ2 := hk1.tr (hg_μ2 ▸ zKp.put (hT1 z hBz).2 (Or.inr ⟨z, hzL, rfl⟩))
      have hy2 := (hT2 y hBy).2
      first | refine aw_aload (q := 70) dJ23_moveRootToFront_68 rfl rfl ?_ | refine aw_aloadN (q := 70) dJ23_moveRootToFront_68 rfl rfl ?_ | refine aw_aloadQ (q := 70) dJ23_moveRootToFront_68 rfl rfl ?_
      refine aw_ifnull_r (q := 73) dJ23_moveRootToFront_70 rfl ?_
      first | refine aw_aload (q := 75) dJ23_moveRootToFront_73 rfl rfl ?_ | refine aw_aloadN (q := 75) dJ23_moveRootToFront_73 rfl rfl ?_ | refine aw_aloadQ (q := 75) dJ23_moveRootToFront_73 rfl rfl ?_
      first | refine aw_aload (q := 77) dJ23_moveRootToFront_75 rfl rfl ?_ | refine aw_aloadN (q := 77) dJ23_moveRootToFront_75 rfl rfl ?_ | refine aw_aloadQ (q := 77) dJ23_moveRootToFront_75 rfl rfl ?_
      first | refine aw_putfield (q := 80) dJ23_moveRootToFront_77 gf_J23_22_13 hy2 (by first | assumption | simp) (by first | rfl | exact znar_rf _ _ | exact zB_nar _) (by first | rfl | exact zfit_rf _ _ | exact zB_fit _) (Nat.le_of_ble_eq_true rfl) rfl (fun μ3 hg_μ3 => ?_) | refine aw_putfield (q := 80) dJ23_moveRootToFront_77 gf_J23_22_15 hy2 (by first | assumption | simp) (by first | rfl | exact znar_rf _ _ | exact zB_nar _) (by first | rfl | exact zfit_rf _ _ | exact zB_fit _) (Nat.le_of_ble_eq_true rfl) rfl (fun μ3 hg_μ3 => ?_)
      have hy2 : μ3 _ = some _ := hg_μ3 ▸ updM_eq _ _ _
      simp only [List.set] at hy2 hg_μ3
      obtain ⟨hT3, hk3⟩ := hT2.p_nx hBy (some z) hg_μ3
      have htb3 : μ3 tb = _ := hg_μ3 ▸ (updM_ne (Ne.symm (tbne y hBy))).trans htb2
      have hkk : zKp (fun c u => c = tb ∨ ∃ h, h ∈ l ∧ u = hnT R o h) μ μ3 := hk2'.tr (hg_μ3 ▸ zKp.put (hT2 y hBy).2 (Or.inr ⟨y, hyL, rfl⟩))
      exact AW.bud (aw_locals (by exact ⟨rfl, rfl, trivial⟩) (fin μ3 _ _ hT3 htb3 (by (unfold zMnx; rw [hy, hz0])) (by (unfold zMpv; rw [hz0, hy])) (fun x hx => ⟨va_up_ne _ _ (fun e => hx (e ▸ hyL)), va_up_ne _ _ (fun e => hx (e ▸ hzL))⟩) hkk)) (by omega) (by omega)
end ZMV
