/-! HASH MAPS: treeifyBin, putTreeVal, putVal, put -/
set_option maxRecDepth 100000
theorem upN_id {f : Nat → Nat} {x : Nat} : upN f x (f x) = f := by
  funext j
  by_cases e : j = x
  · subst e; exact upN_eq
  · exact upN_ne e
theorem va_up_id {f : Nat → Option Nat} {x : Nat} {v : Option Nat} (h : f x = v) : va_up f x v = f := by
  funext j
  by_cases e : j = x
  · subst e; rw [va_up_self, h]
  · exact va_up_ne _ _ e
theorem zPv_in {pv : Nat → Option Nat} : ∀ {l : List Nat} {a : Option Nat}, zPv pv a l → ∀ x, x ∈ l → ∀ y, pv x = some y → y ∈ l ∨ a = some y
  | [], _, _, x, hx, _, _ => absurd hx List.not_mem_nil
  | z :: l, a, h, x, hx, y, hy => by
    rcases List.mem_cons.mp hx with rfl | hx
    · exact Or.inr (h.1.symm.trans hy)
    · rcases zPv_in h.2 x hx y hy with q | q
      · exact Or.inl (List.mem_cons_of_mem _ q)
      · cases q; exact Or.inl List.mem_cons_self
theorem zCh.ins {nx : Nat → Option Nat} {x h : Nat} : ∀ {l1 l2 : List Nat}, zCh nx (l1 ++ x :: l2) → (l1 ++ x :: l2).Nodup → h ∉ l1 ++ x :: l2 → zCh (va_up (va_up nx h (nx x)) x (some h)) (l1 ++ x :: h :: l2)
  | [], l2, hc, hn, hh => by
    have hx := (List.nodup_cons.mp hn).1
    have hxh : h ≠ x := fun e => hh (e ▸ List.mem_cons_self)
    refine ⟨va_up_self _ _ _, ?_, hc.2.congr (fun z hz => ?_)⟩
    · rw [va_up_ne _ _ hxh, va_up_self]; exact hc.1
    · rw [va_up_ne _ _ (fun (e : z = x) => hx (e ▸ hz)), va_up_ne _ _ (fun (e : z = h) => hh (e ▸ List.mem_cons_of_mem _ hz))]
  | z :: l1, l2, hc, hn, hh => by
    have hn' := List.nodup_cons.mp hn
    have hzx : z ≠ x := fun q => hn'.1 (q ▸ List.mem_append_right _ List.mem_cons_self)
    have hzh : z ≠ h := fun q => hh (q ▸ List.mem_cons_self)
    refine ⟨?_, zCh.ins hc.2 hn'.2 (fun q => hh (List.mem_cons_of_mem _ q))⟩
    rw [va_up_ne _ _ hzx, va_up_ne _ _ hzh, hc.1]
    cases l1 <;> rfl
/-- prev behind an insertion: at h, and at the one behind it -/
def zPvi (pv : Nat → Option Nat) (x h : Nat) (y : Option Nat) : Nat → Option Nat := match y with
  | none => va_up pv h (some x)
  | some z => va_up (va_up pv h (some x)) z (some h)
theorem zPv.ins {pv : Nat → Option Nat} {x h : Nat} {l1 l2 : List Nat} (hp : zPv pv none (l1 ++ x :: l2)) (hn : (l1 ++ x :: l2).Nodup) (hh : h ∉ l1 ++ x :: l2) : zPv (zPvi pv x h l2.head?) none (l1 ++ x :: h :: l2) := by
  obtain ⟨p1, p2, p3⟩ := zPv.app.mp hp
  obtain ⟨n1, n2, n3⟩ := List.nodup_append.mp hn
  obtain ⟨n4, n5⟩ := List.nodup_cons.mp n2
  have hhx : h ≠ x := fun e => hh (e ▸ List.mem_append_right _ List.mem_cons_self)
  have hh1 : h ∉ l1 := fun e => hh (List.mem_append_left _ e)
  have hh2 : h ∉ l2 := fun e => hh (List.mem_append_right _ (List.mem_cons_of_mem _ e))
  have key : ∀ z, z ∈ l1 ∨ z = x → zPvi pv x h l2.head? z = pv z := by
    intro z hz
    have nh : z ≠ h := fun e => hz.elim (fun q => hh1 (e ▸ q)) (fun q => hhx (e.symm.trans q))
    cases l2 with
    | nil => exact va_up_ne _ _ nh
    | cons w l2 =>
      have nw : z ≠ w := fun e => hz.elim (fun q => n3 z q w (List.mem_cons_of_mem _ List.mem_cons_self) e) (fun q => n4 (q ▸ e ▸ List.mem_cons_self))
      show va_up (va_up pv h (some x)) w (some h) z = pv z
      rw [va_up_ne _ _ nw, va_up_ne _ _ nh]
  refine zPv.app.mpr ⟨p1.congr (fun z hz => key z (Or.inl hz)), (key x (Or.inr rfl)).trans p2, ?_, ?_⟩
  · cases l2 with
    | nil => exact va_up_self _ _ _
    | cons w l2 =>
      have nw : h ≠ w := fun e => hh2 (e ▸ List.mem_cons_self)
      show va_up (va_up pv h (some x)) w (some h) h = some x
      rw [va_up_ne _ _ nw, va_up_self]
  · cases l2 with
    | nil => trivial
    | cons w l2 =>
      refine ⟨va_up_self _ _ _, p3.2.congr (fun z hz => ?_)⟩
      have nw : z ≠ w := fun e => (List.nodup_cons.mp n5).1 (e ▸ hz)
      have nh : z ≠ h := fun e => hh2 (e ▸ List.mem_cons_of_mem _ hz)
      show va_up (va_up pv h (some x)) w (some h) z = pv z
      rw [va_up_ne _ _ nw, va_up_ne _ _ nh]
theorem zMemI {x h y : Nat} {l1 l2 : List Nat} : y ∈ l1 ++ x :: h :: l2 ↔ y ∈ l1 ++ x :: l2 ∨ y = h := by
  simp only [List.mem_append, List.mem_cons]
  constructor
  · rintro (q | q | q | q)
    · exact Or.inl (Or.inl q)
    · exact Or.inl (Or.inr (Or.inl q))
    · exact Or.inr q
    · exact Or.inl (Or.inr (Or.inr q))
  · rintro ((q | q | q) | q)
    · exact Or.inl q
    · exact Or.inr (Or.inl q)
    · exact Or.inr (Or.inr (Or.inr q))
    · exact Or.inr (Or.inr (Or.inl q))
theorem zNodI {x h : Nat} {l1 l2 : List Nat} (hn : (l1 ++ x :: l2).Nodup) (hh : h ∉ l1 ++ x :: l2) : (l1 ++ x :: h :: l2).Nodup := by
  obtain ⟨n1, n2, n3⟩ := List.nodup_append.mp hn
  obtain ⟨n4, n5⟩ := List.nodup_cons.mp n2
  have hhx : h ≠ x := fun e => hh (e ▸ List.mem_append_right _ List.mem_cons_self)
  have hh1 : h ∉ l1 := fun e => hh (List.mem_append_left _ e)
  have hh2 : h ∉ l2 := fun e => hh (List.mem_append_right _ (List.mem_cons_of_mem _ e))
  refine List.nodup_append.mpr ⟨n1, List.nodup_cons.mpr ⟨fun q => ?_, List.nodup_cons.mpr ⟨hh2, n5⟩⟩, fun a ha b hb e => ?_⟩
  · rcases List.mem_cons.mp q with q | q
    · exact hhx q.symm
    · exact n4 q
  · rcases List.mem_cons.mp hb with q | q
    · exact n3 a ha b (q ▸ List.mem_cons_self) e
    · rcases List.mem_cons.mp q with q | q
      · exact hh1 (q ▸ e ▸ ha)
      · exact n3 a ha b (List.mem_cons_of_mem _ q) e
section ZTB
variable {G : zG} {μ : zM} {R o : Nat} {ν ky vl : Nat → Nat} {nx : Nat → Option Nat}
set_option maxHeartbeats 8000000 in
/-- a plain bin becomes a tree -/
theorem C_tfB {m tb n k i h cap x0 : Nat} {ft : Nat → Option Nat} {l : List Nat} {tm : zT} {fs : List Value} (hm : μ m = some (tm, .inr (19, fs))) (htb : μ tb = some (hbT R o, aN G n ft)) (hn : 2 ^ k = n) (hk : 6 ≤ k) (hk8 : k ≤ 8) (hi : h % n = i) (hh : h < 8192) (hf : ft i = l.head?.map ν) (hP : zPn μ R o ν ky vl nx (· ∈ l)) (hc : zCh nx l) (hnd : l.Nodup) (hx0 : l.head? = some x0) (hmod : ∀ x, x ∈ l → x % n = i) (hR : 1 ≤ R) :
    Meets G 7 MJ4_treeifyBin [.ref m, .ref tb, .int (nI h)] μ (fun v μ' => v = none ∧ ∃ (f : Option Nat) (l' : List Nat), μ' tb = some (hbT R o, aN G n (va_up ft i f)) ∧ zBin μ' R o cap ky vl true f l' ∧ (∀ x, x ∈ l' ↔ x ∈ l) ∧ zKp (fun c u => c = tb ∨ ∃ x, x ∈ l ∧ u = hnT R o x) μ μ') l.length (11 * l.length) := by
  have hn256 : n ≤ 2 ^ 8 := hn ▸ Nat.pow_le_pow_right (by decide) hk8
  have hn64 : 2 ^ 6 ≤ n := hn ▸ Nat.pow_le_pow_right (by decide) hk
  have htz : hbT R o ≠ zC := fun e => by have e1 : R + 1 = 0 := congrArg Prod.fst e; omega
  have hil : i < n := hi ▸ Nat.mod_lt _ (by omega)
  have hx0l : x0 ∈ l := List.mem_of_mem_head? hx0
  have hfx : ft i = some (ν x0) := by rw [hf, hx0]; rfl
  -- 43: one more node
  have add : ∀ (bc bs : Nat) (rest done : List Nat) (x : Nat), l = done ++ x :: rest → ∀ (μ1 : zM) (ν' : Nat → Nat) (nx' pv' : Nat → Option Nat) (rd' : Nat → Int32), zTn μ1 R o ν' ky vl nx' (fun _ => none) (fun _ => none) (fun _ => none) pv' rd' (· ∈ done) → zCh nx' done → zPv pv' none done → (∀ y, y ∈ done → μ (ν' y) = none) → zKp (fun _ _ => False) μ μ1 →
      (∀ (μ3 : zM) (ν3 : Nat → Nat) (nx3 pv3 : Nat → Option Nat) (rd3 : Nat → Int32), zTn μ3 R o ν3 ky vl nx3 (fun _ => none) (fun _ => none) (fun _ => none) pv3 rd3 (· ∈ done ++ [x]) → zCh nx3 (done ++ [x]) → zPv pv3 none (done ++ [x]) → (∀ y, y ∈ done ++ [x] → μ (ν3 y) = none) → zKp (fun _ _ => False) μ μ3 → AW G 7 MJ4_treeifyBin (fun v μ' => v = none ∧ ∃ (f : Option Nat) (l' : List Nat), μ' tb = some (hbT R o, aN G n (va_up ft i f)) ∧ zBin μ' R o cap ky vl true f l' ∧ (∀ x, x ∈ l' ↔ x ∈ l) ∧ zKp (fun c u => c = tb ∨ ∃ x, x ∈ l ∧ u = hnT R o x) μ μ') bc bs 78 [(0, .ref m), (1, .ref tb), (4, .int (nI i)), (5, .ref (ν x)), (6, va_rf ((done ++ [x]).head?.map ν3)), (8, .ref (ν3 x))] [] μ3) →
      AW G 7 MJ4_treeifyBin (fun v μ' => v = none ∧ ∃ (f : Option Nat) (l' : List Nat), μ' tb = some (hbT R o, aN G n (va_up ft i f)) ∧ zBin μ' R o cap ky vl true f l' ∧ (∀ x, x ∈ l' ↔ x ∈ l) ∧ zKp (fun c u => c = tb ∨ ∃ x, x ∈ l ∧ u = hnT R o x) μ μ') (bc + 1) (bs + 11) 43 [(0, .ref m), (1, .ref tb), (4, .int (nI i)), (5, .ref (ν x)), (6, va_rf (done.head?.map ν')), (7, va_rf (done.getLast?.map ν'))] [] μ1 := by
    intro bc bs rest done x hl μ1 ν' nx' pv' rd' hT hcd hvd hnw hk1 k78
    have hxl : x ∈ l := by rw [hl]; exact List.mem_append_right _ List.mem_cons_self
    obtain ⟨hx8, hx1⟩ := hP x hxl
    have hx1 := hk1 _ _ _ hx1 (fun q => q)
    have hm1 := hk1 _ _ _ hm (fun q => q)
    obtain ⟨nd1, nd2, nd3⟩ := List.nodup_append.mp (hl ▸ hnd)
    have hxd : x ∉ done := fun q => nd3 x q x List.mem_cons_self rfl
    first | refine aw_aload_n (i := 0) (q := 44) dJ4_treeifyBin_43 rfl rfl rfl ?_ | refine aw_aloadN_n (i := 0) (q := 44) dJ4_treeifyBin_43 rfl rfl rfl ?_ | refine aw_aloadQ_n (i := 0) (q := 44) dJ4_treeifyBin_43 rfl rfl rfl ?_
    first | refine aw_aload (q := 46) dJ4_treeifyBin_44 rfl rfl ?_ | refine aw_aloadN (q := 46) dJ4_treeifyBin_44 rfl rfl ?_ | refine aw_aloadQ (q := 46) dJ4_treeifyBin_44 rfl rfl ?_
    refine aw_null (q := 47) dJ4_treeifyBin_46 rfl ?_
    refine aw_callV (q := 50) dJ4_treeifyBin_47 (C_replTreeNode (r := none) (u := hnT R o x) hx1 hnT_nz) cv_J4_215_19 (by assumption) rfl rfl (by decide) (by decide) (by first | exact Nat.le_of_ble_eq_true rfl | simp [zcat_rf, Value.category]) rfl (fun v47 μ2 hp => ?_)
    obtain ⟨c, rfl, hcn, hg⟩ := hp
    have hlk : zLks nx' (fun _ => none) (fun _ => none) (fun _ => none) pv' (· ∈ done) := fun y hy => ⟨fun z hz => zCh_in hcd y hy z hz, fun z hz => (by cases hz), fun z hz => (by cases hz), fun z hz => (by cases hz), fun z hz => (zPv_in hvd y hy z hz).resolve_right (fun q => (by cases q))⟩
    have hT2 := hT.new (c := c) (x := x) (k := ky x) (v := vl x) (r := none) hlk hxd hx8 hcn (fun y hy => by cases hy) hg
    rw [upN_id, upN_id, va_up_id (f := fun _ => none) rfl] at hT2
    have hT3 := hT2.mono (B' := (· ∈ done ++ [x])) (fun y hy => (List.mem_append.mp hy).elim Or.inl (fun q => Or.inr (List.mem_singleton.mp q)))
    have hk2 : zKp (fun _ _ => False) μ μ2 := hk1.tr (hg ▸ zKp.new hcn)
    have hcn0 : μ c = none := by
      cases hq : μ c with
      | none => rfl
      | some e =>
        have q2 := hk1 c e.1 e.2 hq (fun q => q)
        rw [hcn] at q2
        cases q2
    have e1 : upN ν' x c x = c := upN_eq
    have e2 : ∀ z, z ∈ done → upN ν' x c z = ν' z := fun z hz => upN_ne (fun e => hxd (e ▸ hz))
    have hs := hcd.snocN nd1 hxd
    have hxx : x ∈ done ++ [x] := List.mem_append_right _ List.mem_cons_self
    clear hT2 hlk
    generalize upN ν' x c = ν3 at hT3 e1 e2
    subst e1
    have hnw2 : ∀ y, y ∈ done ++ [x] → μ (ν3 y) = none := by
      intro y hy
      rcases List.mem_append.mp hy with q | q
      · rw [e2 y q]; exact hnw y q
      · rw [List.mem_singleton.mp q]; exact hcn0
    rw [show done.head?.map ν' = done.head?.map ν3 from (zOmap (fun z hz => e2 z (List.mem_of_mem_head? hz))).symm, show done.getLast?.map ν' = done.getLast?.map ν3 from (zOmap (fun z hz => e2 z (List.mem_of_getLast? hz))).symm]
    first | refine aw_astore (q := 52) dJ4_treeifyBin_50 (by decide) rfl ?_ | refine aw_astoreN (q := 52) dJ4_treeifyBin_50 (by decide) rfl ?_ | refine aw_astoreQ (q := 52) dJ4_treeifyBin_50 (by decide) rfl ?_
    try simp (config := {decide := true}) only [zput, zdel_q, zdel_f, zdel_t, zdel_nil, zdel_r, zdel_i, zdel_n]
    first | refine aw_aload (q := 54) dJ4_treeifyBin_52 rfl rfl ?_ | refine aw_aloadN (q := 54) dJ4_treeifyBin_52 rfl rfl ?_ | refine aw_aloadQ (q := 54) dJ4_treeifyBin_52 rfl rfl ?_
    rcases zSnoc done with rfl | ⟨dm, y, rfl⟩
    · simp only [List.getLast?_nil, List.head?_nil, Option.map_none, zrf_n]
      refine aw_ifnonnull_n (q := 57) dJ4_treeifyBin_54 rfl ?_
      first | refine aw_aload (q := 59) dJ4_treeifyBin_57 rfl rfl ?_ | refine aw_aloadN (q := 59) dJ4_treeifyBin_57 rfl rfl ?_ | refine aw_aloadQ (q := 59) dJ4_treeifyBin_57 rfl rfl ?_
      first | refine aw_astore (q := 61) dJ4_treeifyBin_59 (by decide) rfl ?_ | refine aw_astoreN (q := 61) dJ4_treeifyBin_59 (by decide) rfl ?_ | refine aw_astoreQ (q := 61) dJ4_treeifyBin_59 (by decide) rfl ?_
      try simp (config := {decide := true}) only [zput, zdel_q, zdel_f, zdel_t, zdel_nil, zdel_r, zdel_i, zdel_n]
      refine aw_goto (tgt := 78) dJ4_treeifyBin_61 (by decide) ?_
      refine aw_locals ?_ (k78 μ2 ν3 _ (va_up pv' x none) _ hT3 hs ⟨va_up_self _ _ _, trivial⟩ hnw2 hk2)
      exact ⟨rfl, rfl, rfl, rfl, rfl, rfl, trivial⟩
    · have hyd : y ∈ dm ++ [y] := List.mem_append_right _ List.mem_cons_self
      have hyx : y ≠ x := fun e => hxd (e ▸ hyd)
      have hyy : y ∈ dm ++ [y] ++ [x] := List.mem_append_left _ hyd
      have ehd : ((dm ++ [y]) ++ [x]).head? = (dm ++ [y]).head? := by cases dm <;> rfl
      have hv := hvd.snoc hxd
      rw [zLast] at hs hv ⊢
      have hc2 := (hT3 x hxx).2
      simp only [Option.map_some, zrf_s]
      refine aw_ifnonnull_r (tgt := 64) dJ4_treeifyBin_54 (by decide) ?_
      first | refine aw_aload (q := 66) dJ4_treeifyBin_64 rfl rfl ?_ | refine aw_aloadN (q := 66) dJ4_treeifyBin_64 rfl rfl ?_ | refine aw_aloadQ (q := 66) dJ4_treeifyBin_64 rfl rfl ?_
      first | refine aw_aload (q := 68) dJ4_treeifyBin_66 rfl rfl ?_ | refine aw_aloadN (q := 68) dJ4_treeifyBin_66 rfl rfl ?_ | refine aw_aloadQ (q := 68) dJ4_treeifyBin_66 rfl rfl ?_
      refine aw_putfield (q := 71) dJ4_treeifyBin_68 gf_J4_219_15 hc2 (by first | assumption | simp) (by first | rfl | exact znar_rf _ _ | exact zB_nar _) (by first | rfl | exact zfit_rf _ _ | exact zB_fit _) (Nat.le_of_ble_eq_true rfl) rfl (fun μ3 hg_μ3 => ?_)
      have hc2 : μ3 _ = some _ := hg_μ3 ▸ updM_eq _ _ _
      simp only [List.set] at hc2 hg_μ3
      obtain ⟨hT4, hk4⟩ := hT3.p_pv (μ' := μ3) hxx (some y) hg_μ3
      have hy4 := (hT4 y hyy).2
      first | refine aw_aload (q := 73) dJ4_treeifyBin_71 rfl rfl ?_ | refine aw_aloadN (q := 73) dJ4_treeifyBin_71 rfl rfl ?_ | refine aw_aloadQ (q := 73) dJ4_treeifyBin_71 rfl rfl ?_
      first | refine aw_aload (q := 75) dJ4_treeifyBin_73 rfl rfl ?_ | refine aw_aloadN (q := 75) dJ4_treeifyBin_73 rfl rfl ?_ | refine aw_aloadQ (q := 75) dJ4_treeifyBin_73 rfl rfl ?_
      first | refine aw_putfield (q := 78) dJ4_treeifyBin_75 gf_J4_223_13 hy4 (by first | assumption | simp) (by first | rfl | exact znar_rf _ _ | exact zB_nar _) (by first | rfl | exact zfit_rf _ _ | exact zB_fit _) (Nat.le_of_ble_eq_true rfl) rfl (fun μ4 hg_μ4 => ?_) | refine aw_putfield (q := 78) dJ4_treeifyBin_75 gf_J4_223_15 hy4 (by first | assumption | simp) (by first | rfl | exact znar_rf _ _ | exact zB_nar _) (by first | rfl | exact zfit_rf _ _ | exact zB_fit _) (Nat.le_of_ble_eq_true rfl) rfl (fun μ4 hg_μ4 => ?_)
      have hy4 : μ4 _ = some _ := hg_μ4 ▸ updM_eq _ _ _
      simp only [List.set] at hy4 hg_μ4
      obtain ⟨hT5, hk5⟩ := hT4.p_nx (μ' := μ4) hyy (some x) hg_μ4
      have epv : va_up (va_up pv' x none) x (some y) = va_up pv' x (some y) := by
        funext z
        by_cases e : z = x
        · subst e; rw [va_up_self, va_up_self]
        · rw [va_up_ne _ _ e, va_up_ne _ _ e, va_up_ne _ _ e]
      rw [epv] at hT5
      have hkk : zKp (fun _ _ => False) μ μ4 := by
        intro a t e ha _
        rw [hg_μ4, updM_ne (zneN ha (hnw2 y hyy)), hg_μ3, updM_ne (zneN ha hcn0)]
        exact hk2 a t e ha (fun q => q)
      refine aw_locals ?_ (k78 μ4 ν3 _ _ _ hT5 hs hv hnw2 hkk)
      exact ⟨rfl, rfl, rfl, rfl, by rw [ehd]; rfl, rfl, trivial⟩
  have loop : ∀ (rest done : List Nat) (x : Nat), l = done ++ x :: rest → zCh nx (x :: rest) → ∀ (μ1 : zM) (ν' : Nat → Nat) (nx' pv' : Nat → Option Nat) (rd' : Nat → Int32), zTn μ1 R o ν' ky vl nx' (fun _ => none) (fun _ => none) (fun _ => none) pv' rd' (· ∈ done) → zCh nx' done → zPv pv' none done → (∀ y, y ∈ done → μ (ν' y) = none) → zKp (fun _ _ => False) μ μ1 →
      AW G 7 MJ4_treeifyBin (fun v μ' => v = none ∧ ∃ (f : Option Nat) (l' : List Nat), μ' tb = some (hbT R o, aN G n (va_up ft i f)) ∧ zBin μ' R o cap ky vl true f l' ∧ (∀ x, x ∈ l' ↔ x ∈ l) ∧ zKp (fun c u => c = tb ∨ ∃ x, x ∈ l ∧ u = hnT R o x) μ μ') (rest.length + 1) (11 * rest.length + 11) 43 [(0, .ref m), (1, .ref tb), (4, .int (nI i)), (5, .ref (ν x)), (6, va_rf (done.head?.map ν')), (7, va_rf (done.getLast?.map ν'))] [] μ1 := by
    intro rest
    induction rest with
    | nil =>
      intro done x hl hcr μ1 ν' nx' pv' rd' hT hcd hvd hnw hk1
      refine add 0 0 [] done x hl μ1 ν' nx' pv' rd' hT hcd hvd hnw hk1 ?_
      intro μ3 ν3 nx3 pv3 rd3 hT3 hc3 hv3 hnw3 hk3
      have hxl : x ∈ l := by rw [hl]; exact List.mem_append_right _ List.mem_cons_self
      have hx3 := hk3 _ _ _ (hP x hxl).2 (fun q => q)
      rw [hcr.1] at hx3
      simp only [List.head?_nil, Option.map_none, zrf_n] at hx3
      rw [← hl] at hT3 hc3 hv3 hnw3 ⊢
      have hhd : va_rf (l.head?.map ν3) = .ref (ν3 x0) := by rw [hx0]; rfl
      have htb3 := hk3 _ _ _ htb (fun q => q)
      have hy3 := (hT3 x0 hx0l).2
      rw [hhd]
      first | refine aw_aload (q := 80) dJ4_treeifyBin_78 rfl rfl ?_ | refine aw_aloadN (q := 80) dJ4_treeifyBin_78 rfl rfl ?_ | refine aw_aloadQ (q := 80) dJ4_treeifyBin_78 rfl rfl ?_
      first | refine aw_astore (q := 82) dJ4_treeifyBin_80 (by decide) rfl ?_ | refine aw_astoreN (q := 82) dJ4_treeifyBin_80 (by decide) rfl ?_ | refine aw_astoreQ (q := 82) dJ4_treeifyBin_80 (by decide) rfl ?_
      try simp (config := {decide := true}) only [zput, zdel_q, zdel_f, zdel_t, zdel_nil, zdel_r, zdel_i, zdel_n]
      first | refine aw_aload (q := 84) dJ4_treeifyBin_82 rfl rfl ?_ | refine aw_aloadN (q := 84) dJ4_treeifyBin_82 rfl rfl ?_ | refine aw_aloadQ (q := 84) dJ4_treeifyBin_82 rfl rfl ?_
      first | refine aw_getfield (q := 87) dJ4_treeifyBin_84 gf_J4_177_13 (by assumption) rfl rfl ?_ | refine aw_getfield (q := 87) dJ4_treeifyBin_84 gf_J4_177_15 (by assumption) rfl rfl ?_ | refine aw_nd (i := 3) (q := 87) dJ4_treeifyBin_84 gf_J4_177_13 gf_J4_177_15 (by assumption) rfl rfl ?_
      refine aw_dup (q := 88) dJ4_treeifyBin_87 (by first | rfl | exact zcat_rf _) rfl ?_
      first | refine aw_astore (q := 90) dJ4_treeifyBin_88 (by decide) rfl ?_ | refine aw_astoreN (q := 90) dJ4_treeifyBin_88 (by decide) rfl ?_ | refine aw_astoreQ (q := 90) dJ4_treeifyBin_88 (by decide) rfl ?_
      refine aw_ifnonnull_n (q := 93) dJ4_treeifyBin_90 rfl ?_
      first | refine aw_aload_n (i := 1) (q := 94) dJ4_treeifyBin_93 rfl rfl rfl ?_ | refine aw_aloadN_n (i := 1) (q := 94) dJ4_treeifyBin_93 rfl rfl rfl ?_ | refine aw_aloadQ_n (i := 1) (q := 94) dJ4_treeifyBin_93 rfl rfl rfl ?_
      refine aw_iload (q := 96) dJ4_treeifyBin_94 rfl rfl ?_
      first | refine aw_aload (q := 98) dJ4_treeifyBin_96 rfl rfl ?_ | refine aw_aloadN (q := 98) dJ4_treeifyBin_96 rfl rfl ?_ | refine aw_aloadQ (q := 98) dJ4_treeifyBin_96 rfl rfl ?_
      refine aw_dup_x2 (q := 99) dJ4_treeifyBin_98 (by first | rfl | exact zcat_rf _) (by first | rfl | exact zcat_rf _) (by first | rfl | exact zcat_rf _) rfl ?_
      refine aw_aastX (j := 5) (E := "java/util/HashMap$Node") i (q := 100) dJ4_treeifyBin_99 rfl htb3 htz hy3 ca_15_J18 rfl hil (by omega) rfl (fun μ4 hg_μ4 => ?_)
      have htb4 : μ4 tb = some _ := hg_μ4 ▸ updM_eq _ _ _
      have hT4 : zTn μ4 R o ν3 ky vl nx3 (fun _ => none) (fun _ => none) (fun _ => none) pv3 rd3 (· ∈ l) := fun z hz => ⟨(hT3 z hz).1, hg_μ4 ▸ (updM_ne (zneq (hT3 z hz).2 htb3 (by simp))).trans (hT3 z hz).2⟩
      have hk4 : zKp (fun c u => c = tb ∨ ∃ x, x ∈ l ∧ u = hnT R o x) μ μ4 := (hk3.mono (fun c u q => q.elim)).tr (hg_μ4 ▸ zKp.up.mono (fun c u q => Or.inl q))
      refine aw_ifnull_r (q := 103) dJ4_treeifyBin_100 rfl ?_
      first | refine aw_aload (q := 105) dJ4_treeifyBin_103 rfl rfl ?_ | refine aw_aloadN (q := 105) dJ4_treeifyBin_103 rfl rfl ?_ | refine aw_aloadQ (q := 105) dJ4_treeifyBin_103 rfl rfl ?_
      first | refine aw_aload_n (i := 1) (q := 106) dJ4_treeifyBin_105 rfl rfl rfl ?_ | refine aw_aloadN_n (i := 1) (q := 106) dJ4_treeifyBin_105 rfl rfl rfl ?_ | refine aw_aloadQ_n (i := 1) (q := 106) dJ4_treeifyBin_105 rfl rfl rfl ?_
      have hy4 := (hT4 x0 hx0l).2
      refine aw_callV (q := 109) dJ4_treeifyBin_106 (C_treeify (i := i) hT4 htb4 hn hk8 hmod (by rw [va_up_self, hx0]; rfl) hx0 hc3 hv3 hnd hR) cv_J4_224_15 (by assumption) rfl rfl (by decide) (by decide) (by first | exact Nat.le_of_ble_eq_true rfl | simp [zcat_rf, Value.category]) rfl (fun v106 μ5 hp => ?_)
      have hpost := hp
      have hv5 := hpost.1
      subst hv5
      obtain ⟨f, l', t1, t2, t3, t4⟩ := hpost.bin (cap := cap)
      have eft : va_up (va_up ft i (some (ν3 x0))) i f = va_up ft i f := by
        funext z
        by_cases e : z = i
        · subst e; rw [va_up_self, va_up_self]
        · rw [va_up_ne _ _ e, va_up_ne _ _ e, va_up_ne _ _ e]
      rw [eft] at t1
      exact aw_return dJ4_treeifyBin_109 rfl (⟨rfl, f, l', t1, t2, t3, hk4.tr t4⟩)
    | cons y rest ih =>
      intro done x hl hcr μ1 ν' nx' pv' rd' hT hcd hvd hnw hk1
      refine AW.bud (bc' := (rest.length + 1) + 1) (bs' := (11 * rest.length + 11) + 11) ?_ (by simp only [List.length_cons]; omega) (by simp only [List.length_cons]; omega)
      refine add _ _ (y :: rest) done x hl μ1 ν' nx' pv' rd' hT hcd hvd hnw hk1 ?_
      intro μ3 ν3 nx3 pv3 rd3 hT3 hc3 hv3 hnw3 hk3
      have hxl : x ∈ l := by rw [hl]; exact List.mem_append_right _ List.mem_cons_self
      have hx3 := hk3 _ _ _ (hP x hxl).2 (fun q => q)
      rw [hcr.1] at hx3
      simp only [List.head?_cons, Option.map_some, zrf_s] at hx3
      first | refine aw_aload (q := 80) dJ4_treeifyBin_78 rfl rfl ?_ | refine aw_aloadN (q := 80) dJ4_treeifyBin_78 rfl rfl ?_ | refine aw_aloadQ (q := 80) dJ4_treeifyBin_78 rfl rfl ?_
      first | refine aw_astore (q := 82) dJ4_treeifyBin_80 (by decide) rfl ?_ | refine aw_astoreN (q := 82) dJ4_treeifyBin_80 (by decide) rfl ?_ | refine aw_astoreQ (q := 82) dJ4_treeifyBin_80 (by decide) rfl ?_
      try simp (config := {decide := true}) only [zput, zdel_q, zdel_f, zdel_t, zdel_nil, zdel_r, zdel_i, zdel_n]
      first | refine aw_aload (q := 84) dJ4_treeifyBin_82 rfl rfl ?_ | refine aw_aloadN (q := 84) dJ4_treeifyBin_82 rfl rfl ?_ | refine aw_aloadQ (q := 84) dJ4_treeifyBin_82 rfl rfl ?_
      first | refine aw_getfield (q := 87) dJ4_treeifyBin_84 gf_J4_177_13 (by assumption) rfl rfl ?_ | refine aw_getfield (q := 87) dJ4_treeifyBin_84 gf_J4_177_15 (by assumption) rfl rfl ?_ | refine aw_nd (i := 3) (q := 87) dJ4_treeifyBin_84 gf_J4_177_13 gf_J4_177_15 (by assumption) rfl rfl ?_
      refine aw_dup (q := 88) dJ4_treeifyBin_87 (by first | rfl | exact zcat_rf _) rfl ?_
      first | refine aw_astore (q := 90) dJ4_treeifyBin_88 (by decide) rfl ?_ | refine aw_astoreN (q := 90) dJ4_treeifyBin_88 (by decide) rfl ?_ | refine aw_astoreQ (q := 90) dJ4_treeifyBin_88 (by decide) rfl ?_
      refine aw_ifnonnull_r (tgt := 43) dJ4_treeifyBin_90 (by decide) ?_
      refine aw_locals ?_ (ih (done ++ [x]) y (by rw [hl, List.append_assoc]; rfl) hcr.2 μ3 ν3 nx3 pv3 rd3 hT3 hc3 hv3 hnw3 hk3)
      exact ⟨rfl, rfl, rfl, rfl, rfl, by rw [zLast]; rfl, trivial⟩
  obtain ⟨l', hl'⟩ : ∃ l', l = x0 :: l' := by
    cases l with
    | nil => cases hx0
    | cons y l' => cases hx0; exact ⟨l', rfl⟩
  refine meets_of (by decide +kernel) (Nat.le_of_ble_eq_true rfl) ?_
  first | refine aw_aload_n (i := 1) (q := 1) dJ4_treeifyBin_0 rfl rfl rfl ?_ | refine aw_aloadN_n (i := 1) (q := 1) dJ4_treeifyBin_0 rfl rfl rfl ?_ | refine aw_aloadQ_n (i := 1) (q := 1) dJ4_treeifyBin_0 rfl rfl rfl ?_
  refine aw_ifnull_r (q := 4) dJ4_treeifyBin_1 rfl ?_
  first | refine aw_aload_n (i := 1) (q := 5) dJ4_treeifyBin_4 rfl rfl rfl ?_ | refine aw_aloadN_n (i := 1) (q := 5) dJ4_treeifyBin_4 rfl rfl rfl ?_ | refine aw_aloadQ_n (i := 1) (q := 5) dJ4_treeifyBin_4 rfl rfl rfl ?_
  first | refine aw_alenI (q := 6) dJ4_treeifyBin_5 (by assumption) rfl ?_ | refine aw_alenO (q := 6) dJ4_treeifyBin_5 (by assumption) rfl ?_ | refine aw_alenN (q := 6) dJ4_treeifyBin_5 (by assumption) rfl ?_ | refine aw_alenB (q := 6) dJ4_treeifyBin_5 (by assumption) rfl ?_ | refine aw_alenP (q := 6) dJ4_treeifyBin_5 (by assumption) rfl ?_
  refine aw_dup (q := 7) dJ4_treeifyBin_6 (by first | rfl | exact zcat_rf _) rfl ?_
  refine aw_istore_n (i := 3) (q := 8) dJ4_treeifyBin_7 rfl (by decide) rfl ?_
  refine aw_bipush (v := 64) (q := 10) dJ4_treeifyBin_8 rfl rfl ?_
  refine aw_icmp_ge (tgt := 21) (q := 13) dJ4_treeifyBin_10 (by decide) rfl (fun _ => ?_) (fun hZ => absurd (nI_le (a := 64) (by omega) (by omega)) hZ)
  first | refine aw_aload_n (i := 1) (q := 22) dJ4_treeifyBin_21 rfl rfl rfl ?_ | refine aw_aloadN_n (i := 1) (q := 22) dJ4_treeifyBin_21 rfl rfl rfl ?_ | refine aw_aloadQ_n (i := 1) (q := 22) dJ4_treeifyBin_21 rfl rfl rfl ?_
  refine aw_iload_n (i := 3) (q := 23) dJ4_treeifyBin_22 rfl rfl rfl ?_
  refine aw_iconst (v := 1) (q := 24) dJ4_treeifyBin_23 rfl rfl ?_
  refine aw_isub (q := 25) dJ4_treeifyBin_24 rfl ?_
  refine aw_iload_n (i := 2) (q := 26) dJ4_treeifyBin_25 rfl rfl rfl ?_
  refine aw_iand (q := 27) dJ4_treeifyBin_26 rfl ?_
  refine aw_dup (q := 28) dJ4_treeifyBin_27 (by first | rfl | exact zcat_rf _) rfl ?_
  refine aw_istore (q := 30) dJ4_treeifyBin_28 (by decide) rfl ?_
  rw [show nI n - 1 = nI (n - 1) by rw [show n = (n - 1) + 1 by omega]; exact nI_pred _, i_mask hn (by omega) (by omega), hi]
  first | refine aw_aaldO (q := 31) (v := some (ν x0)) (i) dJ4_treeifyBin_30 (by assumption) (by first | assumption | (simp only [← nI_add, ← pk_mul]; rfl) | rfl) (by omega) (by omega) (hfx) rfl ?_ | refine aw_aaldP (q := 31) (v := some (ν x0)) (i) dJ4_treeifyBin_30 (by assumption) (by first | assumption | (simp only [← nI_add, ← pk_mul]; rfl) | rfl) (by omega) (by omega) (hfx) rfl ?_ | refine aw_aaldN (q := 31) (v := some (ν x0)) (i) dJ4_treeifyBin_30 (by assumption) (by first | assumption | (simp only [← nI_add, ← pk_mul]; rfl) | rfl) (by omega) (by omega) (hfx) rfl ?_
  refine aw_dup (q := 32) dJ4_treeifyBin_31 (by first | rfl | exact zcat_rf _) rfl ?_
  first | refine aw_astore (q := 34) dJ4_treeifyBin_32 (by decide) rfl ?_ | refine aw_astoreN (q := 34) dJ4_treeifyBin_32 (by decide) rfl ?_ | refine aw_astoreQ (q := 34) dJ4_treeifyBin_32 (by decide) rfl ?_
  simp only [zrf_s]
  refine aw_ifnull_r (q := 37) dJ4_treeifyBin_34 rfl ?_
  refine aw_null (q := 38) dJ4_treeifyBin_37 rfl ?_
  first | refine aw_astore (q := 40) dJ4_treeifyBin_38 (by decide) rfl ?_ | refine aw_astoreN (q := 40) dJ4_treeifyBin_38 (by decide) rfl ?_ | refine aw_astoreQ (q := 40) dJ4_treeifyBin_38 (by decide) rfl ?_
  try simp (config := {decide := true}) only [zput, zdel_q, zdel_f, zdel_t, zdel_nil, zdel_r, zdel_i, zdel_n]
  refine aw_null (q := 41) dJ4_treeifyBin_40 rfl ?_
  first | refine aw_astore (q := 43) dJ4_treeifyBin_41 (by decide) rfl ?_ | refine aw_astoreN (q := 43) dJ4_treeifyBin_41 (by decide) rfl ?_ | refine aw_astoreQ (q := 43) dJ4_treeifyBin_41 (by decide) rfl ?_
  try simp (config := {decide := true}) only [zput, zdel_q, zdel_f, zdel_t, zdel_nil, zdel_r, zdel_i, zdel_n]
  have hz : zTn μ R o (fun _ => 0) ky vl (fun _ => none) (fun _ => none) (fun _ => none) (fun _ => none) (fun _ => none) (fun _ => 0) (· ∈ ([] : List Nat)) := fun h hh => absurd hh List.not_mem_nil
  refine AW.bud (aw_locals ?_ (loop l' [] x0 hl' (hl' ▸ hc) μ _ _ _ _ hz trivial trivial (fun y hy => absurd hy List.not_mem_nil) zKp.rf)) (by rw [hl']; exact Nat.le_refl _) (by rw [hl']; simp only [List.length_cons]; omega)
  exact ⟨rfl, rfl, rfl, rfl, rfl, rfl, trivial⟩
/-- .. while the table is small, it grows -/
theorem C_tfBS {m tb k cap h sz : Nat} {es : Option Nat} {mc : Int32} {pl : Bool} {ks : List Nat} {val : Nat → Nat} (hm : zHMt G μ R o m tb k cap es mc sz pl ks val) (hcap : cap ≤ zCap (k + 1)) (hk : k < 6) (hR : 1 ≤ R) : Meets G 7 MJ4_treeifyBin [.ref m, .ref tb, .int (nI h)] μ (fun v μ' => v = none ∧ ∃ tn, zHMt G μ' R o m tn (k + 1) (zCap (k + 1)) es mc sz pl ks val ∧ zKp (zMt R o) μ μ') (1 + ks.length) (2 ^ (k + 1) + 4 * ks.length) := by
  have hm0 := hm.1
  have htb : ∃ ft, μ tb = some (hbT R o, aN G (2 ^ k) ft) := by
    obtain ⟨-, ky, ft, L, tr, h2, h3, ⟨htb, -⟩, -⟩ := hm
    exact ⟨ft, htb⟩
  obtain ⟨ft, htb⟩ := htb
  have hn32 : 2 ^ k ≤ 2 ^ 5 := Nat.pow_le_pow_right (by decide) (by omega)
  refine meets_of (by decide +kernel) (Nat.le_of_ble_eq_true rfl) ?_
  first | refine aw_aload_n (i := 1) (q := 1) dJ4_treeifyBin_0 rfl rfl rfl ?_ | refine aw_aloadN_n (i := 1) (q := 1) dJ4_treeifyBin_0 rfl rfl rfl ?_ | refine aw_aloadQ_n (i := 1) (q := 1) dJ4_treeifyBin_0 rfl rfl rfl ?_
  refine aw_ifnull_r (q := 4) dJ4_treeifyBin_1 rfl ?_
  refine AW.bud (bc' := 0 + (1 + ks.length)) (bs' := 0 + (2 ^ (k + 1) + 4 * ks.length)) ?_ (by omega) (by omega)
  first | refine aw_aload_n (i := 1) (q := 5) dJ4_treeifyBin_4 rfl rfl rfl ?_ | refine aw_aloadN_n (i := 1) (q := 5) dJ4_treeifyBin_4 rfl rfl rfl ?_ | refine aw_aloadQ_n (i := 1) (q := 5) dJ4_treeifyBin_4 rfl rfl rfl ?_
  first | refine aw_alenI (q := 6) dJ4_treeifyBin_5 (by assumption) rfl ?_ | refine aw_alenO (q := 6) dJ4_treeifyBin_5 (by assumption) rfl ?_ | refine aw_alenN (q := 6) dJ4_treeifyBin_5 (by assumption) rfl ?_ | refine aw_alenB (q := 6) dJ4_treeifyBin_5 (by assumption) rfl ?_ | refine aw_alenP (q := 6) dJ4_treeifyBin_5 (by assumption) rfl ?_
  refine aw_dup (q := 7) dJ4_treeifyBin_6 (by first | rfl | exact zcat_rf _) rfl ?_
  refine aw_istore_n (i := 3) (q := 8) dJ4_treeifyBin_7 rfl (by decide) rfl ?_
  refine aw_bipush (v := 64) (q := 10) dJ4_treeifyBin_8 rfl rfl ?_
  refine aw_icmp_ge (tgt := 21) (q := 13) dJ4_treeifyBin_10 (by decide) rfl (fun hZ => absurd hZ (nI_ge (a := 2 ^ k) (b := 64) (by omega) (by omega))) (fun _ => ?_)
  first | refine aw_aload_n (i := 0) (q := 14) dJ4_treeifyBin_13 rfl rfl rfl ?_ | refine aw_aloadN_n (i := 0) (q := 14) dJ4_treeifyBin_13 rfl rfl rfl ?_ | refine aw_aloadQ_n (i := 0) (q := 14) dJ4_treeifyBin_13 rfl rfl rfl ?_
  refine aw_callV (q := 17) dJ4_treeifyBin_14 (C_resizeT hm hcap (by omega) hR) cv_J4_117_19 (by assumption) rfl rfl (by decide) (by decide) (by first | exact Nat.le_of_ble_eq_true rfl | simp [zcat_rf, Value.category]) rfl (fun v14 μ1 hp => ?_)
  obtain ⟨tn, rfl, h1, h2⟩ := hp
  refine aw_pop (q := 18) dJ4_treeifyBin_17 (by first | rfl | exact zcat_rf _) rfl ?_
  refine aw_goto (tgt := 109) dJ4_treeifyBin_18 (by decide) ?_
  exact aw_return dJ4_treeifyBin_109 rfl (⟨rfl, tn, h1, h2⟩)
end ZTB
section ZPV
variable {G : zG} {μ : zM} {R o : Nat} {ν ky vl : Nat → Nat} {nx pa le ri pv : Nat → Option Nat} {rd : Nat → Int32} {a b : Nat → Int}
/-- what putTreeVal leaves -/
def zPtv (G : zG) (μ : zM) (R o tb n i h cap : Nat) (ky vl : Nat → Nat) (ft : Nat → Option Nat) (l : List Nat) : Option Value → zM → Prop := fun v μ' => v = some .null ∧ ∃ (f : Option Nat) (l' : List Nat), μ' tb = some (hbT R o, aN G n (va_up ft i f)) ∧ zBin μ' R o cap ky vl true f l' ∧ (∀ x, x ∈ l' ↔ x ∈ l ∨ x = h) ∧ zKp (fun c u => c = tb ∨ ∃ x, (x ∈ l ∨ x = h) ∧ u = hnT R o x) μ μ'
theorem zPvi_eq {pv : Nat → Option Nat} {x h : Nat} {y : Option Nat} : (match y with
    | none => va_up (va_up pv h none) h (some x)
    | some z => va_up (va_up (va_up pv h none) h (some x)) z (some h)) = zPvi pv x h y := by
  have e : va_up (va_up pv h none) h (some x) = va_up pv h (some x) := by
    funext z
    by_cases e : z = h
    · subst e; rw [va_up_self, va_up_self]
    · rw [va_up_ne _ _ e, va_up_ne _ _ e, va_up_ne _ _ e]
  cases y with
  | none => exact e
  | some z => show va_up (va_up (va_up pv h none) h (some x)) z (some h) = _; rw [e]; rfl
set_option maxHeartbeats 8000000 in
theorem C_putTreeVal {m tb n k i h kk vv cap x0 : Nat} {ft : Nat → Option Nat} {l : List Nat} {tm : zT} {fs : List Value} (hm : μ m = some (tm, .inr (19, fs))) (htb : μ tb = some (hbT R o, aN G n ft)) (hn : 2 ^ k = n) (hk8 : k ≤ 8) (hi : h % n = i) (hh : h < 8192) (hf : ft i = l.head?.map ν) (hT : zTn μ R o ν ky vl nx pa le ri pv rd (· ∈ l)) (hTr : zTree (· ∈ l) zKap pa le ri a b) (hc : zCh nx l) (hv : zPv pv none l) (hnd : l.Nodup) (hx0 : l.head? = some x0) (hmod : ∀ x, x ∈ l → x % n = i) (hhl : h ∉ l) (hR : 1 ≤ R) :
    Meets G 6 MJ23_putTreeVal [.ref (ν x0), .ref m, .ref tb, .int (nI h), .ref kk, .ref vv] μ (zPtv G μ R o tb n i h cap (upN ky h kk) (upN vl h vv) ft l) 1 11 := by
  have hn256 : n ≤ 2 ^ 8 := hn ▸ Nat.pow_le_pow_right (by decide) hk8
  have hn0 : 0 < n := hn ▸ Nat.two_pow_pos k
  have htz : hbT R o ≠ zC := fun e => by have e1 : R + 1 = 0 := congrArg Prod.fst e; omega
  have hil : i < n := hi ▸ Nat.mod_lt _ (by omega)
  have hx0l : x0 ∈ l := List.mem_of_mem_head? hx0
  have hki : ∀ j : Nat, j ∈ l → zKap j ≠ zKap h := by
    intro j hj e
    have e2 : (j : Int) = (h : Int) := e
    have e3 : j = h := by omega
    exact hhl (e3 ▸ hj)
  -- the leaf p is found; dr says on which side
  have leaf : ∀ (rt p : Nat) (dr : Int32), rt ∈ l → pa rt = none → p ∈ l → (dr ≤ 0 → le p = none ∧ a p < (h : Int) ∧ (h : Int) < (p : Int)) → (¬ dr ≤ 0 → ri p = none ∧ (p : Int) < (h : Int) ∧ (h : Int) < b p) → AW G 6 MJ23_putTreeVal (zPtv G μ R o tb n i h cap (upN ky h kk) (upN vl h vv) ft l) 1 11 221 [(1, .ref m), (2, .ref tb), (3, .int (nI h)), (4, .ref kk), (5, .ref vv), (8, .ref (ν rt)), (10, .int dr), (13, .ref (ν p))] [] μ := by
    intro rt p dr hrt hrn hp hd1 hd2
    obtain ⟨l1, l2, hl⟩ := List.append_of_mem hp
    have hp1 := (hT p hp).2
    obtain ⟨hp8, -⟩ := hT p hp
    have hph : p ≠ h := fun e => hhl (e ▸ hp)
    have hnxp : nx p = l2.head? := by
      have : ∀ {l1 : List Nat}, zCh nx (l1 ++ p :: l2) → nx p = l2.head? := by
        intro l1
        induction l1 with
        | nil => intro q; exact q.1
        | cons z l1 ih => intro q; exact ih q.2
      exact this (hl ▸ hc)
    have hlk : zLks nx pa le ri pv (· ∈ l) := by
      intro y hy
      obtain ⟨y1, y2, y3, y4, y5, y6, y7⟩ := hTr y hy
      exact ⟨fun z hz => zCh_in hc y hy z hz, fun z hz => (y7 z hz).1, fun z hz => (y2 z hz).1, fun z hz => (y4 z hz).1, fun z hz => (zPv_in hv y hy z hz).resolve_right (fun q => (by cases q))⟩
    first | refine aw_aload (q := 223) dJ23_putTreeVal_221 rfl rfl ?_ | refine aw_aloadN (q := 223) dJ23_putTreeVal_221 rfl rfl ?_ | refine aw_aloadQ (q := 223) dJ23_putTreeVal_221 rfl rfl ?_
    first | refine aw_getfield (q := 226) dJ23_putTreeVal_223 gf_J23_22_13 (by assumption) rfl rfl ?_ | refine aw_getfield (q := 226) dJ23_putTreeVal_223 gf_J23_22_15 (by assumption) rfl rfl ?_ | refine aw_nd (i := 3) (q := 226) dJ23_putTreeVal_223 gf_J23_22_13 gf_J23_22_15 (by assumption) rfl rfl ?_
    first | refine aw_astore (q := 228) dJ23_putTreeVal_226 (by decide) rfl ?_ | refine aw_astoreN (q := 228) dJ23_putTreeVal_226 (by decide) rfl ?_ | refine aw_astoreQ (q := 228) dJ23_putTreeVal_226 (by decide) rfl ?_
    try simp (config := {decide := true}) only [zput, zdel_q, zdel_f, zdel_t, zdel_nil, zdel_r, zdel_i, zdel_n]
    first | refine aw_aload_n (i := 1) (q := 229) dJ23_putTreeVal_228 rfl rfl rfl ?_ | refine aw_aloadN_n (i := 1) (q := 229) dJ23_putTreeVal_228 rfl rfl rfl ?_ | refine aw_aloadQ_n (i := 1) (q := 229) dJ23_putTreeVal_228 rfl rfl rfl ?_
    refine aw_iload_n (i := 3) (q := 230) dJ23_putTreeVal_229 rfl rfl rfl ?_
    first | refine aw_aload (q := 232) dJ23_putTreeVal_230 rfl rfl ?_ | refine aw_aloadN (q := 232) dJ23_putTreeVal_230 rfl rfl ?_ | refine aw_aloadQ (q := 232) dJ23_putTreeVal_230 rfl rfl ?_
    first | refine aw_aload (q := 234) dJ23_putTreeVal_232 rfl rfl ?_ | refine aw_aloadN (q := 234) dJ23_putTreeVal_232 rfl rfl ?_ | refine aw_aloadQ (q := 234) dJ23_putTreeVal_232 rfl rfl ?_
    first | refine aw_aload (q := 236) dJ23_putTreeVal_234 rfl rfl ?_ | refine aw_aloadN (q := 236) dJ23_putTreeVal_234 rfl rfl ?_ | refine aw_aloadQ (q := 236) dJ23_putTreeVal_234 rfl rfl ?_
    refine aw_callV (q := 239) dJ23_putTreeVal_236 (C_newTreeNode (r := (nx p).map ν) (u := hnT R o h) hnT_nz) cv_J23_115_19 (by assumption) rfl rfl (by decide) (by decide) (by first | exact Nat.le_of_ble_eq_true rfl | simp [zcat_rf, Value.category]) rfl (fun v236 μ2 hp => ?_)
    obtain ⟨c, rfl, hcn, hg⟩ := hp
    have hT2 := hT.new (c := c) (x := h) (k := kk) (v := vv) (r := nx p) hlk hhl hh hcn (fun y hy => zCh_in hc p hp y hy) hg
    have hk2 : zKp (fun _ _ => False) μ μ2 := hg ▸ zKp.new hcn
    have e1 : upN ν h c h = c := upN_eq
    have e2 : ∀ z, z ∈ l → upN ν h c z = ν z := fun z hz => upN_ne (fun e => hhl (e ▸ hz))
    have e5 : (nx p).map ν = (nx p).map (upN ν h c) := (zOmap (fun z hz => e2 z (zCh_in hc p hp z hz))).symm
    have e6 : l.head?.map ν = l.head?.map (upN ν h c) := (zOmap (fun z hz => e2 z (List.mem_of_mem_head? hz))).symm
    rw [e5, ← e2 rt hrt, ← e2 p hp]
    rw [e6] at hf
    have hbp : (fun y => y ∈ l ∨ y = h) p := Or.inl hp
    have hbh : (fun y => y ∈ l ∨ y = h) h := Or.inr rfl
    generalize upN ν h c = ν3 at *
    subst e1
    have htb2 := hk2 _ _ _ htb (fun q => q)
    have tbk : ∀ μ1, zKp (zNt R o (fun y => y ∈ l ∨ y = h)) μ2 μ1 → μ1 tb = some (hbT R o, aN G n ft) := fun μ1 hk1 => hk1 _ _ _ htb2 (fun ⟨z, _, e⟩ => zTb_ne e.symm)
    -- 263: behind the child's link
    have s263 : ∀ (μ3 : zM) (le3 ri3 : Nat → Option Nat), zTn μ3 R o ν3 (upN ky h kk) (upN vl h vv) (va_up nx h (nx p)) (va_up pa h none) le3 ri3 (va_up pv h none) (upd rd h 0) (fun y => y ∈ l ∨ y = h) → (∃ a' b', zTree (fun y => y ∈ l ∨ y = h) zKap (va_up pa h (some p)) le3 ri3 a' b') → zKp (zNt R o (fun y => y ∈ l ∨ y = h)) μ2 μ3 → AW G 6 MJ23_putTreeVal (zPtv G μ R o tb n i h cap (upN ky h kk) (upN vl h vv) ft l) 0 0 263 [(1, .ref m), (2, .ref tb), (8, .ref (ν3 rt)), (13, .ref (ν3 p)), (14, va_rf ((nx p).map ν3)), (15, .ref (ν3 h))] [] μ3 := by
      intro μ3 le3 ri3 hT3 ⟨a', b', hTr3⟩ hk3
      have hp3 := (hT3 p hbp).2
      first | refine aw_aload (q := 265) dJ23_putTreeVal_263 rfl rfl ?_ | refine aw_aloadN (q := 265) dJ23_putTreeVal_263 rfl rfl ?_ | refine aw_aloadQ (q := 265) dJ23_putTreeVal_263 rfl rfl ?_
      first | refine aw_aload (q := 267) dJ23_putTreeVal_265 rfl rfl ?_ | refine aw_aloadN (q := 267) dJ23_putTreeVal_265 rfl rfl ?_ | refine aw_aloadQ (q := 267) dJ23_putTreeVal_265 rfl rfl ?_
      first | refine aw_putfield (q := 270) dJ23_putTreeVal_267 gf_J23_22_13 hp3 (by first | assumption | simp) (by first | rfl | exact znar_rf _ _ | exact zB_nar _) (by first | rfl | exact zfit_rf _ _ | exact zB_fit _) (Nat.le_of_ble_eq_true rfl) rfl (fun μ4 hg_μ4 => ?_) | refine aw_putfield (q := 270) dJ23_putTreeVal_267 gf_J23_22_15 hp3 (by first | assumption | simp) (by first | rfl | exact znar_rf _ _ | exact zB_nar _) (by first | rfl | exact zfit_rf _ _ | exact zB_fit _) (Nat.le_of_ble_eq_true rfl) rfl (fun μ4 hg_μ4 => ?_)
      have hp3 : μ4 _ = some _ := hg_μ4 ▸ updM_eq _ _ _
      simp only [List.set] at hp3 hg_μ4
      obtain ⟨hT4, hk4⟩ := hT3.p_nx (μ' := μ4) hbp (some h) hg_μ4
      have hh4 := (hT4 h hbh).2
      first | refine aw_aload (q := 272) dJ23_putTreeVal_270 rfl rfl ?_ | refine aw_aloadN (q := 272) dJ23_putTreeVal_270 rfl rfl ?_ | refine aw_aloadQ (q := 272) dJ23_putTreeVal_270 rfl rfl ?_
      first | refine aw_aload (q := 274) dJ23_putTreeVal_272 rfl rfl ?_ | refine aw_aloadN (q := 274) dJ23_putTreeVal_272 rfl rfl ?_ | refine aw_aloadQ (q := 274) dJ23_putTreeVal_272 rfl rfl ?_
      first | refine aw_aload (q := 276) dJ23_putTreeVal_274 rfl rfl ?_ | refine aw_aloadN (q := 276) dJ23_putTreeVal_274 rfl rfl ?_ | refine aw_aloadQ (q := 276) dJ23_putTreeVal_274 rfl rfl ?_
      refine aw_dup_x1 (q := 277) dJ23_putTreeVal_276 (by first | rfl | exact zcat_rf _) (by first | rfl | exact zcat_rf _) rfl ?_
      refine aw_putfield (q := 280) dJ23_putTreeVal_277 gf_J23_19_15 hh4 (by first | assumption | simp) (by first | rfl | exact znar_rf _ _ | exact zB_nar _) (by first | rfl | exact zfit_rf _ _ | exact zB_fit _) (Nat.le_of_ble_eq_true rfl) rfl (fun μ5 hg_μ5 => ?_)
      have hh4 : μ5 _ = some _ := hg_μ5 ▸ updM_eq _ _ _
      simp only [List.set] at hh4 hg_μ5
      obtain ⟨hT5, hk5⟩ := hT4.p_pv (μ' := μ5) hbh (some p) hg_μ5
      have hh5 := (hT5 h hbh).2
      refine aw_putfield (q := 283) dJ23_putTreeVal_280 gf_J23_9_15 hh5 (by first | assumption | simp) (by first | rfl | exact znar_rf _ _ | exact zB_nar _) (by first | rfl | exact zfit_rf _ _ | exact zB_fit _) (Nat.le_of_ble_eq_true rfl) rfl (fun μ6 hg_μ6 => ?_)
      have hh5 : μ6 _ = some _ := hg_μ6 ▸ updM_eq _ _ _
      simp only [List.set] at hh5 hg_μ6
      obtain ⟨hT6, hk6⟩ := hT5.p_pa (μ' := μ6) hbh (some p) hg_μ6
      have epa : va_up (va_up pa h none) h (some p) = va_up pa h (some p) := by
        funext z
        by_cases e : z = h
        · subst e; rw [va_up_self, va_up_self]
        · rw [va_up_ne _ _ e, va_up_ne _ _ e, va_up_ne _ _ e]
      rw [epa] at hT6
      have hk36 := ((hk3.tr hk4).tr hk5).tr hk6
      have hins := (hl ▸ hc : zCh nx (l1 ++ p :: l2)).ins (hl ▸ hnd) (hl ▸ hhl)
      have hvins := (hl ▸ hv : zPv pv none (l1 ++ p :: l2)).ins (h := h) (hl ▸ hnd) (hl ▸ hhl)
      rw [← zPvi_eq] at hvins
      -- 298: balance, the root goes to the front
      have s298 : ∀ (μ7 : zM) (pv7 : Nat → Option Nat), zTn μ7 R o ν3 (upN ky h kk) (upN vl h vv) (va_up (va_up nx h (nx p)) p (some h)) (va_up pa h (some p)) le3 ri3 pv7 (upd rd h 0) (fun y => y ∈ l ∨ y = h) → zPv pv7 none (l1 ++ p :: h :: l2) → zKp (zNt R o (fun y => y ∈ l ∨ y = h)) μ2 μ7 → AW G 6 MJ23_putTreeVal (zPtv G μ R o tb n i h cap (upN ky h kk) (upN vl h vv) ft l) 0 0 298 [(2, .ref tb), (8, .ref (ν3 rt)), (15, .ref (ν3 h))] [] μ7 := by
        intro μ7 pv7 hT7 hv7 hk7
        have hrn7 : va_up pa h (some p) rt = none := (va_up_ne _ _ (fun (e : rt = h) => hhl (e ▸ hrt))).trans hrn
        first | refine aw_aload_n (i := 2) (q := 299) dJ23_putTreeVal_298 rfl rfl rfl ?_ | refine aw_aloadN_n (i := 2) (q := 299) dJ23_putTreeVal_298 rfl rfl rfl ?_ | refine aw_aloadQ_n (i := 2) (q := 299) dJ23_putTreeVal_298 rfl rfl rfl ?_
        first | refine aw_aload (q := 301) dJ23_putTreeVal_299 rfl rfl ?_ | refine aw_aloadN (q := 301) dJ23_putTreeVal_299 rfl rfl ?_ | refine aw_aloadQ (q := 301) dJ23_putTreeVal_299 rfl rfl ?_
        first | refine aw_aload (q := 303) dJ23_putTreeVal_301 rfl rfl ?_ | refine aw_aloadN (q := 303) dJ23_putTreeVal_301 rfl rfl ?_ | refine aw_aloadQ (q := 303) dJ23_putTreeVal_301 rfl rfl ?_
        refine aw_callS (q := 306) dJ23_putTreeVal_303 (C_balanceInsertion (rt := rt) (x := h) hT7 hTr3 (fun y hy => hy) zKap_inj (Or.inl hrt) hrn7 hbh) cs_J23_100 rfl rfl (by decide) (by decide) (by first | exact Nat.le_of_ble_eq_true rfl | simp [zcat_rf, Value.category]) rfl (fun v303 μ8 hp => ?_)
        obtain ⟨rt', pa', le', ri', a8, b8, rd', rfl, b1, b2, b3, b4, b5⟩ := hp
        have htb8 := tbk μ8 (hk7.tr b5)
        have hmod' : ∀ x, (x ∈ l ∨ x = h) → x % n = i := fun x hx => hx.elim (hmod x) (fun e => e ▸ hi)
        have hmI : ∀ y, y ∈ l1 ++ p :: h :: l2 ↔ (y ∈ l ∨ y = h) := fun y => by rw [zMemI, hl]
        have hhd : (l1 ++ p :: h :: l2).head? = l.head? := by rw [hl]; cases l1 <;> rfl
        refine aw_callS (q := 309) dJ23_putTreeVal_306 (C_moveRootToFront (rt := rt') (l := l1 ++ p :: h :: l2) b3 (fun x hx => (hmI x).mp hx) ((hmI rt').mpr b1) htb8 hn hk8 (by rw [hmod' rt' b1, hhd]; exact hf) hins hv7 (zNodI (hl ▸ hnd) (hl ▸ hhl)) hR) cs_J23_104 rfl rfl (by decide) (by decide) (by first | exact Nat.le_of_ble_eq_true rfl | simp [zcat_rf, Value.category]) rfl (fun v306 μ9 hp => ?_)
        obtain ⟨rfl, nx', pv', l', m1, m2, m3, m4, m5, m6, m7, m8⟩ := hp
        rw [hmod' rt' b1] at m2
        have hB : zBin μ9 R o cap (upN ky h kk) (upN vl h vv) true (l'.head?.map ν3) l' := ⟨ν3, nx', rfl, m3, m5, fun q => by (cases q), fun _ => ⟨pa', le', ri', pv', rd', a8, b8, fun x hx => m1 x ((hmI x).mp ((m6 x).mp hx)), b4.congr (fun x => ((m6 x).trans (hmI x)).symm) (fun _ _ => ⟨rfl, rfl, rfl⟩), m4⟩⟩
        have hkk : zKp (fun c u => c = tb ∨ ∃ x, (x ∈ l ∨ x = h) ∧ u = hnT R o x) μ μ9 := ((hk2.mono (fun c u q => q.elim)).tr ((hk7.tr b5).mono (fun c u q => Or.inr q))).tr (m8.mono (fun c u q => q.imp id (fun ⟨x, h1, h2⟩ => ⟨x, (hmI x).mp h1, h2⟩)))
        refine aw_null (q := 310) dJ23_putTreeVal_309 rfl ?_
        exact aw_areturnN dJ23_putTreeVal_310 rfl (by first | exact Or.inl ⟨_, rfl⟩ | exact Or.inr ⟨_, rfl⟩) (⟨rfl, _, l', m2, hB, fun x => (m6 x).trans (hmI x), hkk⟩)
      first | refine aw_aload (q := 285) dJ23_putTreeVal_283 rfl rfl ?_ | refine aw_aloadN (q := 285) dJ23_putTreeVal_283 rfl rfl ?_ | refine aw_aloadQ (q := 285) dJ23_putTreeVal_283 rfl rfl ?_
      obtain ⟨q, hq⟩ : ∃ q, nx p = q := ⟨_, rfl⟩
      rw [hq] at hT6 s298
      rw [← hnxp, hq] at hvins
      rw [hq]
      cases q with
      | none =>
        simp only [Option.map_none, zrf_n]
        refine aw_ifnull_n (tgt := 298) dJ23_putTreeVal_285 (by decide) ?_
        exact AW.bud (aw_locals (by exact ⟨rfl, rfl, rfl, trivial⟩) (s298 μ6 _ hT6 hvins hk36)) (by omega) (by omega)
      | some z =>
        have hzl : z ∈ l := zCh_in hc p hp z hq
        have hz6 := (hT6 z (Or.inl hzl)).2
        simp only [Option.map_some, zrf_s]
        refine aw_ifnull_r (q := 288) dJ23_putTreeVal_285 rfl ?_
        first | refine aw_aload (q := 290) dJ23_putTreeVal_288 rfl rfl ?_ | refine aw_aloadN (q := 290) dJ23_putTreeVal_288 rfl rfl ?_ | refine aw_aloadQ (q := 290) dJ23_putTreeVal_288 rfl rfl ?_
        refine aw_cast (q := 293) dJ23_putTreeVal_290 q744 hz6 ca_15_J23 rfl ?_
        first | refine aw_aload (q := 295) dJ23_putTreeVal_293 rfl rfl ?_ | refine aw_aloadN (q := 295) dJ23_putTreeVal_293 rfl rfl ?_ | refine aw_aloadQ (q := 295) dJ23_putTreeVal_293 rfl rfl ?_
        refine aw_putfield (q := 298) dJ23_putTreeVal_295 gf_J23_19_15 hz6 (by first | assumption | simp) (by first | rfl | exact znar_rf _ _ | exact zB_nar _) (by first | rfl | exact zfit_rf _ _ | exact zB_fit _) (Nat.le_of_ble_eq_true rfl) rfl (fun μ7 hg_μ7 => ?_)
        have hz6 : μ7 _ = some _ := hg_μ7 ▸ updM_eq _ _ _
        simp only [List.set] at hz6 hg_μ7
        obtain ⟨hT7, hk7⟩ := hT6.p_pv (μ' := μ7) (Or.inl hzl) (some h) hg_μ7
        exact AW.bud (aw_locals (by exact ⟨rfl, rfl, rfl, trivial⟩) (s298 μ7 _ hT7 hvins (hk36.tr hk7))) (by omega) (by omega)
    by_cases hdr : dr ≤ 0
    · obtain ⟨g1, g2, g3⟩ := hd1 hdr
      obtain ⟨a', b', hTr3⟩ := hTr.leafL zKap_inj hp g1 hhl hki g2 g3
      have hp2 := (hT2 p hbp).2
      first | refine aw_astore (q := 241) dJ23_putTreeVal_239 (by decide) rfl ?_ | refine aw_astoreN (q := 241) dJ23_putTreeVal_239 (by decide) rfl ?_ | refine aw_astoreQ (q := 241) dJ23_putTreeVal_239 (by decide) rfl ?_
      try simp (config := {decide := true}) only [zput, zdel_q, zdel_f, zdel_t, zdel_nil, zdel_r, zdel_i, zdel_n]
      refine aw_iload (q := 243) dJ23_putTreeVal_241 rfl rfl ?_
      refine aw_if_gt (tgt := 256) (q := 246) dJ23_putTreeVal_243 (by decide) rfl (fun hZ => absurd hZ ((Int32.not_lt.mpr hdr))) (fun _ => ?_)
      first | refine aw_aload (q := 248) dJ23_putTreeVal_246 rfl rfl ?_ | refine aw_aloadN (q := 248) dJ23_putTreeVal_246 rfl rfl ?_ | refine aw_aloadQ (q := 248) dJ23_putTreeVal_246 rfl rfl ?_
      first | refine aw_aload (q := 250) dJ23_putTreeVal_248 rfl rfl ?_ | refine aw_aloadN (q := 250) dJ23_putTreeVal_248 rfl rfl ?_ | refine aw_aloadQ (q := 250) dJ23_putTreeVal_248 rfl rfl ?_
      refine aw_putfield (q := 253) dJ23_putTreeVal_250 gf_J23_39_15 hp2 (by first | assumption | simp) (by first | rfl | exact znar_rf _ _ | exact zB_nar _) (by first | rfl | exact zfit_rf _ _ | exact zB_fit _) (Nat.le_of_ble_eq_true rfl) rfl (fun μ3 hg_μ3 => ?_)
      have hp2 : μ3 _ = some _ := hg_μ3 ▸ updM_eq _ _ _
      simp only [List.set] at hp2 hg_μ3
      obtain ⟨hT3, hk3⟩ := hT2.p_le (μ' := μ3) hbp (some h) hg_μ3
      refine aw_goto (tgt := 263) dJ23_putTreeVal_253 (by decide) ?_
      exact AW.bud (aw_locals (by exact ⟨rfl, rfl, rfl, rfl, rfl, rfl, trivial⟩) (s263 μ3 _ _ hT3 ⟨a', b', hTr3⟩ hk3)) (by omega) (by omega)
    · obtain ⟨g1, g2, g3⟩ := hd2 hdr
      obtain ⟨a', b', hTr3⟩ := hTr.leafR zKap_inj hp g1 hhl hki g2 g3
      have hp2 := (hT2 p hbp).2
      first | refine aw_astore (q := 241) dJ23_putTreeVal_239 (by decide) rfl ?_ | refine aw_astoreN (q := 241) dJ23_putTreeVal_239 (by decide) rfl ?_ | refine aw_astoreQ (q := 241) dJ23_putTreeVal_239 (by decide) rfl ?_
      try simp (config := {decide := true}) only [zput, zdel_q, zdel_f, zdel_t, zdel_nil, zdel_r, zdel_i, zdel_n]
      refine aw_iload (q := 243) dJ23_putTreeVal_241 rfl rfl ?_
      refine aw_if_gt (tgt := 256) (q := 246) dJ23_putTreeVal_243 (by decide) rfl (fun _ => ?_) (fun hZ => absurd ((Int32.not_le.mp hdr)) hZ)
      first | refine aw_aload (q := 258) dJ23_putTreeVal_256 rfl rfl ?_ | refine aw_aloadN (q := 258) dJ23_putTreeVal_256 rfl rfl ?_ | refine aw_aloadQ (q := 258) dJ23_putTreeVal_256 rfl rfl ?_
      first | refine aw_aload (q := 260) dJ23_putTreeVal_258 rfl rfl ?_ | refine aw_aloadN (q := 260) dJ23_putTreeVal_258 rfl rfl ?_ | refine aw_aloadQ (q := 260) dJ23_putTreeVal_258 rfl rfl ?_
      refine aw_putfield (q := 263) dJ23_putTreeVal_260 gf_J23_42_15 hp2 (by first | assumption | simp) (by first | rfl | exact znar_rf _ _ | exact zB_nar _) (by first | rfl | exact zfit_rf _ _ | exact zB_fit _) (Nat.le_of_ble_eq_true rfl) rfl (fun μ3 hg_μ3 => ?_)
      have hp2 : μ3 _ = some _ := hg_μ3 ▸ updM_eq _ _ _
      simp only [List.set] at hp2 hg_μ3
      obtain ⟨hT3, hk3⟩ := hT2.p_ri (μ' := μ3) hbp (some h) hg_μ3
      exact AW.bud (aw_locals (by exact ⟨rfl, rfl, rfl, rfl, rfl, rfl, trivial⟩) (s263 μ3 _ _ hT3 ⟨a', b', hTr3⟩ hk3)) (by omega) (by omega)
  have loop : ∀ (rt : Nat), rt ∈ l → pa rt = none → ∀ q p, p ∈ l → a p < (h : Int) → (h : Int) < b p → (b p - a p).toNat ≤ q → AW G 6 MJ23_putTreeVal (zPtv G μ R o tb n i h cap (upN ky h kk) (upN vl h vv) ft l) 1 11 27 [(1, .ref m), (2, .ref tb), (3, .int (nI h)), (4, .ref kk), (5, .ref vv), (8, .ref (ν rt)), (9, .ref (ν p))] [] μ := by
    intro rt hrt hrn q
    induction q with
    | zero => intro p hp h1 h2 hm; omega
    | succ q ih =>
      intro p hp h1 h2 hm
      obtain ⟨hp8, hp1⟩ := hT p hp
      obtain ⟨p1, p2, p3, p4, p5, -, -⟩ := hTr.at hp
      rcases Nat.lt_trichotomy h p with hlt | heq | hgt
      · obtain ⟨r, hr⟩ : ∃ r, le p = r := ⟨_, rfl⟩
        rw [hr] at hp1
        cases r with
        | none =>
          simp only [Option.map_none, zrf_n] at hp1
          first | refine aw_aload (q := 29) dJ23_putTreeVal_27 rfl rfl ?_ | refine aw_aloadN (q := 29) dJ23_putTreeVal_27 rfl rfl ?_ | refine aw_aloadQ (q := 29) dJ23_putTreeVal_27 rfl rfl ?_
          first | refine aw_getfield (q := 32) dJ23_putTreeVal_29 gf_J23_15_13 (by assumption) rfl rfl ?_ | refine aw_getfield (q := 32) dJ23_putTreeVal_29 gf_J23_15_15 (by assumption) rfl rfl ?_ | refine aw_nd (i := 0) (q := 32) dJ23_putTreeVal_29 gf_J23_15_13 gf_J23_15_15 (by assumption) rfl rfl ?_
          refine aw_dup (q := 33) dJ23_putTreeVal_32 (by first | rfl | exact zcat_rf _) rfl ?_
          refine aw_istore (q := 35) dJ23_putTreeVal_33 (by decide) rfl ?_
          refine aw_iload_n (i := 3) (q := 36) dJ23_putTreeVal_35 rfl rfl rfl ?_
          refine aw_icmp_le (tgt := 45) (q := 39) dJ23_putTreeVal_36 (by decide) rfl (fun hZ => absurd hZ (nI_ge hlt (by omega))) (fun _ => ?_)
          refine aw_iconst (v := (-1)) (q := 40) dJ23_putTreeVal_39 rfl rfl ?_
          refine aw_istore (q := 42) dJ23_putTreeVal_40 (by decide) rfl ?_
          try simp (config := {decide := true}) only [zput, zdel_q, zdel_f, zdel_t, zdel_nil, zdel_r, zdel_i, zdel_n]
          refine aw_goto (tgt := 193) dJ23_putTreeVal_42 (by decide) ?_
          first | refine aw_aload (q := 195) dJ23_putTreeVal_193 rfl rfl ?_ | refine aw_aloadN (q := 195) dJ23_putTreeVal_193 rfl rfl ?_ | refine aw_aloadQ (q := 195) dJ23_putTreeVal_193 rfl rfl ?_
          first | refine aw_astore (q := 197) dJ23_putTreeVal_195 (by decide) rfl ?_ | refine aw_astoreN (q := 197) dJ23_putTreeVal_195 (by decide) rfl ?_ | refine aw_astoreQ (q := 197) dJ23_putTreeVal_195 (by decide) rfl ?_
          try simp (config := {decide := true}) only [zput, zdel_q, zdel_f, zdel_t, zdel_nil, zdel_r, zdel_i, zdel_n]
          refine aw_iload (q := 199) dJ23_putTreeVal_197 rfl rfl ?_
          refine aw_if_gt (tgt := 210) (q := 202) dJ23_putTreeVal_199 (by decide) rfl (fun hZ => absurd hZ ((by decide))) (fun _ => ?_)
          first | refine aw_aload (q := 204) dJ23_putTreeVal_202 rfl rfl ?_ | refine aw_aloadN (q := 204) dJ23_putTreeVal_202 rfl rfl ?_ | refine aw_aloadQ (q := 204) dJ23_putTreeVal_202 rfl rfl ?_
          refine aw_getfield (q := 207) dJ23_putTreeVal_204 gf_J23_39_15 (by assumption) rfl rfl ?_
          refine aw_goto (tgt := 215) dJ23_putTreeVal_207 (by decide) ?_
          refine aw_dup (q := 216) dJ23_putTreeVal_215 (by first | rfl | exact zcat_rf _) rfl ?_
          first | refine aw_astore (q := 218) dJ23_putTreeVal_216 (by decide) rfl ?_ | refine aw_astoreN (q := 218) dJ23_putTreeVal_216 (by decide) rfl ?_ | refine aw_astoreQ (q := 218) dJ23_putTreeVal_216 (by decide) rfl ?_
          try simp (config := {decide := true}) only [zput, zdel_q, zdel_f, zdel_t, zdel_nil, zdel_r, zdel_i, zdel_n]
          refine aw_ifnonnull_n (q := 221) dJ23_putTreeVal_218 rfl ?_
          exact AW.bud (aw_locals (by exact ⟨rfl, rfl, rfl, rfl, rfl, rfl, rfl, rfl, trivial⟩) (leaf rt p (-1) hrt hrn hp (fun _ => ⟨hr, h1, by omega⟩) (fun z => absurd (by decide) z))) (by omega) (by omega)
        | some y =>
          obtain ⟨y1, y2, y3, y4⟩ := p2 y hr
          simp only [Option.map_some, zrf_s] at hp1
          first | refine aw_aload (q := 29) dJ23_putTreeVal_27 rfl rfl ?_ | refine aw_aloadN (q := 29) dJ23_putTreeVal_27 rfl rfl ?_ | refine aw_aloadQ (q := 29) dJ23_putTreeVal_27 rfl rfl ?_
          first | refine aw_getfield (q := 32) dJ23_putTreeVal_29 gf_J23_15_13 (by assumption) rfl rfl ?_ | refine aw_getfield (q := 32) dJ23_putTreeVal_29 gf_J23_15_15 (by assumption) rfl rfl ?_ | refine aw_nd (i := 0) (q := 32) dJ23_putTreeVal_29 gf_J23_15_13 gf_J23_15_15 (by assumption) rfl rfl ?_
          refine aw_dup (q := 33) dJ23_putTreeVal_32 (by first | rfl | exact zcat_rf _) rfl ?_
          refine aw_istore (q := 35) dJ23_putTreeVal_33 (by decide) rfl ?_
          refine aw_iload_n (i := 3) (q := 36) dJ23_putTreeVal_35 rfl rfl rfl ?_
          refine aw_icmp_le (tgt := 45) (q := 39) dJ23_putTreeVal_36 (by decide) rfl (fun hZ => absurd hZ (nI_ge hlt (by omega))) (fun _ => ?_)
          refine aw_iconst (v := (-1)) (q := 40) dJ23_putTreeVal_39 rfl rfl ?_
          refine aw_istore (q := 42) dJ23_putTreeVal_40 (by decide) rfl ?_
          try simp (config := {decide := true}) only [zput, zdel_q, zdel_f, zdel_t, zdel_nil, zdel_r, zdel_i, zdel_n]
          refine aw_goto (tgt := 193) dJ23_putTreeVal_42 (by decide) ?_
          first | refine aw_aload (q := 195) dJ23_putTreeVal_193 rfl rfl ?_ | refine aw_aloadN (q := 195) dJ23_putTreeVal_193 rfl rfl ?_ | refine aw_aloadQ (q := 195) dJ23_putTreeVal_193 rfl rfl ?_
          first | refine aw_astore (q := 197) dJ23_putTreeVal_195 (by decide) rfl ?_ | refine aw_astoreN (q := 197) dJ23_putTreeVal_195 (by decide) rfl ?_ | refine aw_astoreQ (q := 197) dJ23_putTreeVal_195 (by decide) rfl ?_
          try simp (config := {decide := true}) only [zput, zdel_q, zdel_f, zdel_t, zdel_nil, zdel_r, zdel_i, zdel_n]
          refine aw_iload (q := 199) dJ23_putTreeVal_197 rfl rfl ?_
          refine aw_if_gt (tgt := 210) (q := 202) dJ23_putTreeVal_199 (by decide) rfl (fun hZ => absurd hZ ((by decide))) (fun _ => ?_)
          first | refine aw_aload (q := 204) dJ23_putTreeVal_202 rfl rfl ?_ | refine aw_aloadN (q := 204) dJ23_putTreeVal_202 rfl rfl ?_ | refine aw_aloadQ (q := 204) dJ23_putTreeVal_202 rfl rfl ?_
          refine aw_getfield (q := 207) dJ23_putTreeVal_204 gf_J23_39_15 (by assumption) rfl rfl ?_
          refine aw_goto (tgt := 215) dJ23_putTreeVal_207 (by decide) ?_
          refine aw_dup (q := 216) dJ23_putTreeVal_215 (by first | rfl | exact zcat_rf _) rfl ?_
          first | refine aw_astore (q := 218) dJ23_putTreeVal_216 (by decide) rfl ?_ | refine aw_astoreN (q := 218) dJ23_putTreeVal_216 (by decide) rfl ?_ | refine aw_astoreQ (q := 218) dJ23_putTreeVal_216 (by decide) rfl ?_
          try simp (config := {decide := true}) only [zput, zdel_q, zdel_f, zdel_t, zdel_nil, zdel_r, zdel_i, zdel_n]
          refine aw_ifnonnull_r (tgt := 311) dJ23_putTreeVal_218 (by decide) ?_
          refine aw_goto (tgt := 27) dJ23_putTreeVal_311 (by decide) ?_
          exact AW.bud (aw_locals (by exact ⟨rfl, rfl, rfl, rfl, rfl, rfl, rfl, trivial⟩) (ih y y1 (by omega) (by omega) (by omega))) (by omega) (by omega)
      · exact absurd (heq ▸ hp) hhl
      · obtain ⟨r, hr⟩ : ∃ r, ri p = r := ⟨_, rfl⟩
        rw [hr] at hp1
        cases r with
        | none =>
          simp only [Option.map_none, zrf_n] at hp1
          first | refine aw_aload (q := 29) dJ23_putTreeVal_27 rfl rfl ?_ | refine aw_aloadN (q := 29) dJ23_putTreeVal_27 rfl rfl ?_ | refine aw_aloadQ (q := 29) dJ23_putTreeVal_27 rfl rfl ?_
          first | refine aw_getfield (q := 32) dJ23_putTreeVal_29 gf_J23_15_13 (by assumption) rfl rfl ?_ | refine aw_getfield (q := 32) dJ23_putTreeVal_29 gf_J23_15_15 (by assumption) rfl rfl ?_ | refine aw_nd (i := 0) (q := 32) dJ23_putTreeVal_29 gf_J23_15_13 gf_J23_15_15 (by assumption) rfl rfl ?_
          refine aw_dup (q := 33) dJ23_putTreeVal_32 (by first | rfl | exact zcat_rf _) rfl ?_
          refine aw_istore (q := 35) dJ23_putTreeVal_33 (by decide) rfl ?_
          refine aw_iload_n (i := 3) (q := 36) dJ23_putTreeVal_35 rfl rfl rfl ?_
          refine aw_icmp_le (tgt := 45) (q := 39) dJ23_putTreeVal_36 (by decide) rfl (fun _ => ?_) (fun hZ => absurd (nI_le (by omega) (by omega)) hZ)
          refine aw_iload (q := 47) dJ23_putTreeVal_45 rfl rfl ?_
          refine aw_iload_n (i := 3) (q := 48) dJ23_putTreeVal_47 rfl rfl rfl ?_
          refine aw_icmp_ge (tgt := 57) (q := 51) dJ23_putTreeVal_48 (by decide) rfl (fun hZ => absurd hZ (nI_ge hgt (by omega))) (fun _ => ?_)
          refine aw_iconst (v := 1) (q := 52) dJ23_putTreeVal_51 rfl rfl ?_
          refine aw_istore (q := 54) dJ23_putTreeVal_52 (by decide) rfl ?_
          try simp (config := {decide := true}) only [zput, zdel_q, zdel_f, zdel_t, zdel_nil, zdel_r, zdel_i, zdel_n]
          refine aw_goto (tgt := 193) dJ23_putTreeVal_54 (by decide) ?_
          first | refine aw_aload (q := 195) dJ23_putTreeVal_193 rfl rfl ?_ | refine aw_aloadN (q := 195) dJ23_putTreeVal_193 rfl rfl ?_ | refine aw_aloadQ (q := 195) dJ23_putTreeVal_193 rfl rfl ?_
          first | refine aw_astore (q := 197) dJ23_putTreeVal_195 (by decide) rfl ?_ | refine aw_astoreN (q := 197) dJ23_putTreeVal_195 (by decide) rfl ?_ | refine aw_astoreQ (q := 197) dJ23_putTreeVal_195 (by decide) rfl ?_
          try simp (config := {decide := true}) only [zput, zdel_q, zdel_f, zdel_t, zdel_nil, zdel_r, zdel_i, zdel_n]
          refine aw_iload (q := 199) dJ23_putTreeVal_197 rfl rfl ?_
          refine aw_if_gt (tgt := 210) (q := 202) dJ23_putTreeVal_199 (by decide) rfl (fun _ => ?_) (fun hZ => absurd ((by decide)) hZ)
          first | refine aw_aload (q := 212) dJ23_putTreeVal_210 rfl rfl ?_ | refine aw_aloadN (q := 212) dJ23_putTreeVal_210 rfl rfl ?_ | refine aw_aloadQ (q := 212) dJ23_putTreeVal_210 rfl rfl ?_
          refine aw_getfield (q := 215) dJ23_putTreeVal_212 gf_J23_42_15 (by assumption) rfl rfl ?_
          refine aw_dup (q := 216) dJ23_putTreeVal_215 (by first | rfl | exact zcat_rf _) rfl ?_
          first | refine aw_astore (q := 218) dJ23_putTreeVal_216 (by decide) rfl ?_ | refine aw_astoreN (q := 218) dJ23_putTreeVal_216 (by decide) rfl ?_ | refine aw_astoreQ (q := 218) dJ23_putTreeVal_216 (by decide) rfl ?_
          try simp (config := {decide := true}) only [zput, zdel_q, zdel_f, zdel_t, zdel_nil, zdel_r, zdel_i, zdel_n]
          refine aw_ifnonnull_n (q := 221) dJ23_putTreeVal_218 rfl ?_
          exact AW.bud (aw_locals (by exact ⟨rfl, rfl, rfl, rfl, rfl, rfl, rfl, rfl, trivial⟩) (leaf rt p 1 hrt hrn hp (fun z => absurd z (by decide)) (fun _ => ⟨hr, by omega, h2⟩))) (by omega) (by omega)
        | some y =>
          obtain ⟨y1, y2, y3, y4⟩ := p4 y hr
          simp only [Option.map_some, zrf_s] at hp1
          first | refine aw_aload (q := 29) dJ23_putTreeVal_27 rfl rfl ?_ | refine aw_aloadN (q := 29) dJ23_putTreeVal_27 rfl rfl ?_ | refine aw_aloadQ (q := 29) dJ23_putTreeVal_27 rfl rfl ?_
          first | refine aw_getfield (q := 32) dJ23_putTreeVal_29 gf_J23_15_13 (by assumption) rfl rfl ?_ | refine aw_getfield (q := 32) dJ23_putTreeVal_29 gf_J23_15_15 (by assumption) rfl rfl ?_ | refine aw_nd (i := 0) (q := 32) dJ23_putTreeVal_29 gf_J23_15_13 gf_J23_15_15 (by assumption) rfl rfl ?_
          refine aw_dup (q := 33) dJ23_putTreeVal_32 (by first | rfl | exact zcat_rf _) rfl ?_
          refine aw_istore (q := 35) dJ23_putTreeVal_33 (by decide) rfl ?_
          refine aw_iload_n (i := 3) (q := 36) dJ23_putTreeVal_35 rfl rfl rfl ?_
          refine aw_icmp_le (tgt := 45) (q := 39) dJ23_putTreeVal_36 (by decide) rfl (fun _ => ?_) (fun hZ => absurd (nI_le (by omega) (by omega)) hZ)
          refine aw_iload (q := 47) dJ23_putTreeVal_45 rfl rfl ?_
          refine aw_iload_n (i := 3) (q := 48) dJ23_putTreeVal_47 rfl rfl rfl ?_
          refine aw_icmp_ge (tgt := 57) (q := 51) dJ23_putTreeVal_48 (by decide) rfl (fun hZ => absurd hZ (nI_ge hgt (by omega))) (fun _ => ?_)
          refine aw_iconst (v := 1) (q := 52) dJ23_putTreeVal_51 rfl rfl ?_
          refine aw_istore (q := 54) dJ23_putTreeVal_52 (by decide) rfl ?_
          try simp (config := {decide := true}) only [zput, zdel_q, zdel_f, zdel_t, zdel_nil, zdel_r, zdel_i, zdel_n]
          refine aw_goto (tgt := 193) dJ23_putTreeVal_54 (by decide) ?_
          first | refine aw_aload (q := 195) dJ23_putTreeVal_193 rfl rfl ?_ | refine aw_aloadN (q := 195) dJ23_putTreeVal_193 rfl rfl ?_ | refine aw_aloadQ (q := 195) dJ23_putTreeVal_193 rfl rfl ?_
          first | refine aw_astore (q := 197) dJ23_putTreeVal_195 (by decide) rfl ?_ | refine aw_astoreN (q := 197) dJ23_putTreeVal_195 (by decide) rfl ?_ | refine aw_astoreQ (q := 197) dJ23_putTreeVal_195 (by decide) rfl ?_
          try simp (config := {decide := true}) only [zput, zdel_q, zdel_f, zdel_t, zdel_nil, zdel_r, zdel_i, zdel_n]
          refine aw_iload (q := 199) dJ23_putTreeVal_197 rfl rfl ?_
          refine aw_if_gt (tgt := 210) (q := 202) dJ23_putTreeVal_199 (by decide) rfl (fun _ => ?_) (fun hZ => absurd ((by decide)) hZ)
          first | refine aw_aload (q := 212) dJ23_putTreeVal_210 rfl rfl ?_ | refine aw_aloadN (q := 212) dJ23_putTreeVal_210 rfl rfl ?_ | refine aw_aloadQ (q := 212) dJ23_putTreeVal_210 rfl rfl ?_
          refine aw_getfield (q := 215) dJ23_putTreeVal_212 gf_J23_42_15 (by assumption) rfl rfl ?_
          refine aw_dup (q := 216) dJ23_putTreeVal_215 (by first | rfl | exact zcat_rf _) rfl ?_
          first | refine aw_astore (q := 218) dJ23_putTreeVal_216 (by decide) rfl ?_ | refine aw_astoreN (q := 218) dJ23_putTreeVal_216 (by decide) rfl ?_ | refine aw_astoreQ (q := 218) dJ23_putTreeVal_216 (by decide) rfl ?_
          try simp (config := {decide := true}) only [zput, zdel_q, zdel_f, zdel_t, zdel_nil, zdel_r, zdel_i, zdel_n]
          refine aw_ifnonnull_r (tgt := 311) dJ23_putTreeVal_218 (by decide) ?_
          refine aw_goto (tgt := 27) dJ23_putTreeVal_311 (by decide) ?_
          exact AW.bud (aw_locals (by exact ⟨rfl, rfl, rfl, rfl, rfl, rfl, rfl, trivial⟩) (ih y y1 (by omega) (by omega) (by omega))) (by omega) (by omega)
  have fin : ∀ rt, rt ∈ l → pa rt = none → AW G 6 MJ23_putTreeVal (zPtv G μ R o tb n i h cap (upN ky h kk) (upN vl h vv) ft l) 1 11 21 [(1, .ref m), (2, .ref tb), (3, .int (nI h)), (4, .ref kk), (5, .ref vv)] [.ref (ν rt)] μ := by
    intro rt hrt hrn
    obtain ⟨r1, -, -, -, -, r6, -⟩ := hTr.at hrt
    obtain ⟨e1, e2⟩ := r6 hrn
    first | refine aw_astore (q := 23) dJ23_putTreeVal_21 (by decide) rfl ?_ | refine aw_astoreN (q := 23) dJ23_putTreeVal_21 (by decide) rfl ?_ | refine aw_astoreQ (q := 23) dJ23_putTreeVal_21 (by decide) rfl ?_
    first | refine aw_aload (q := 25) dJ23_putTreeVal_23 rfl rfl ?_ | refine aw_aloadN (q := 25) dJ23_putTreeVal_23 rfl rfl ?_ | refine aw_aloadQ (q := 25) dJ23_putTreeVal_23 rfl rfl ?_
    first | refine aw_astore (q := 27) dJ23_putTreeVal_25 (by decide) rfl ?_ | refine aw_astoreN (q := 27) dJ23_putTreeVal_25 (by decide) rfl ?_ | refine aw_astoreQ (q := 27) dJ23_putTreeVal_25 (by decide) rfl ?_
    try simp (config := {decide := true}) only [zput, zdel_q, zdel_f, zdel_t, zdel_nil, zdel_r, zdel_i, zdel_n]
    exact AW.bud (aw_locals (by exact ⟨rfl, rfl, rfl, rfl, rfl, rfl, rfl, trivial⟩) (loop rt hrt hrn _ rt hrt (by omega) (by omega) (Nat.le_refl _))) (by omega) (by omega)
  have hx1 := (hT x0 hx0l).2
  obtain ⟨q, hq⟩ : ∃ q, pa x0 = q := ⟨_, rfl⟩
  rw [hq] at hx1
  cases q with
  | none =>
    simp only [Option.map_none, zrf_n] at hx1
    refine meets_of (by decide +kernel) (Nat.le_of_ble_eq_true rfl) ?_
    refine aw_null (q := 1) dJ23_putTreeVal_0 rfl ?_
    first | refine aw_astore (q := 3) dJ23_putTreeVal_1 (by decide) rfl ?_ | refine aw_astoreN (q := 3) dJ23_putTreeVal_1 (by decide) rfl ?_ | refine aw_astoreQ (q := 3) dJ23_putTreeVal_1 (by decide) rfl ?_
    refine aw_iconst (v := 0) (q := 4) dJ23_putTreeVal_3 rfl rfl ?_
    refine aw_istore (q := 6) dJ23_putTreeVal_4 (by decide) rfl ?_
    try simp (config := {decide := true}) only [zput, zdel_q, zdel_f, zdel_t, zdel_nil, zdel_r, zdel_i, zdel_n]
    first | refine aw_aload_n (i := 0) (q := 7) dJ23_putTreeVal_6 rfl rfl rfl ?_ | refine aw_aloadN_n (i := 0) (q := 7) dJ23_putTreeVal_6 rfl rfl rfl ?_ | refine aw_aloadQ_n (i := 0) (q := 7) dJ23_putTreeVal_6 rfl rfl rfl ?_
    refine aw_getfield (q := 10) dJ23_putTreeVal_7 gf_J23_9_15 (by assumption) rfl rfl ?_
    refine aw_ifnull_n (tgt := 20) dJ23_putTreeVal_10 (by decide) ?_
    first | refine aw_aload_n (i := 0) (q := 21) dJ23_putTreeVal_20 rfl rfl rfl ?_ | refine aw_aloadN_n (i := 0) (q := 21) dJ23_putTreeVal_20 rfl rfl rfl ?_ | refine aw_aloadQ_n (i := 0) (q := 21) dJ23_putTreeVal_20 rfl rfl rfl ?_
    exact AW.bud (aw_locals (by exact ⟨rfl, rfl, rfl, rfl, rfl, trivial⟩) (fin x0 hx0l hq)) (by omega) (by omega)
  | some w =>
    simp only [Option.map_some, zrf_s] at hx1
    refine meets_of (by decide +kernel) (Nat.le_of_ble_eq_true rfl) ?_
    refine aw_null (q := 1) dJ23_putTreeVal_0 rfl ?_
    first | refine aw_astore (q := 3) dJ23_putTreeVal_1 (by decide) rfl ?_ | refine aw_astoreN (q := 3) dJ23_putTreeVal_1 (by decide) rfl ?_ | refine aw_astoreQ (q := 3) dJ23_putTreeVal_1 (by decide) rfl ?_
    refine aw_iconst (v := 0) (q := 4) dJ23_putTreeVal_3 rfl rfl ?_
    refine aw_istore (q := 6) dJ23_putTreeVal_4 (by decide) rfl ?_
    try simp (config := {decide := true}) only [zput, zdel_q, zdel_f, zdel_t, zdel_nil, zdel_r, zdel_i, zdel_n]
    first | refine aw_aload_n (i := 0) (q := 7) dJ23_putTreeVal_6 rfl rfl rfl ?_ | refine aw_aloadN_n (i := 0) (q := 7) dJ23_putTreeVal_6 rfl rfl rfl ?_ | refine aw_aloadQ_n (i := 0) (q := 7) dJ23_putTreeVal_6 rfl rfl rfl ?_
    refine aw_getfield (q := 10) dJ23_putTreeVal_7 gf_J23_9_15 (by assumption) rfl rfl ?_
    refine aw_ifnull_r (q := 13) dJ23_putTreeVal_10 rfl ?_
    refine AW.bud (bc' := 1 + 0) (bs' := 11 + 0) ?_ (by omega) (by omega)
    first | refine aw_aload_n (i := 0) (q := 14) dJ23_putTreeVal_13 rfl rfl rfl ?_ | refine aw_aloadN_n (i := 0) (q := 14) dJ23_putTreeVal_13 rfl rfl rfl ?_ | refine aw_aloadQ_n (i := 0) (q := 14) dJ23_putTreeVal_13 rfl rfl rfl ?_
    refine aw_callV (q := 17) dJ23_putTreeVal_14 (C_root hT hTr (fun x hx => hx) hx0l) cv_J23_67_15 (by assumption) rfl rfl (by decide) (by decide) (by first | exact Nat.le_of_ble_eq_true rfl | simp [zcat_rf, Value.category]) rfl (fun v14 μ1 hp => ?_)
    obtain ⟨r, hr, hrn, rfl, rfl⟩ := hp
    refine aw_goto (tgt := 21) dJ23_putTreeVal_17 (by decide) ?_
    exact AW.bud (aw_locals (by exact ⟨rfl, rfl, rfl, rfl, rfl, trivial⟩) (fin r hr hrn)) (by omega) (by omega)
end ZPV
section ZPU
variable {G : zG} {μ : zM} {R o : Nat}
theorem zVl_up {val : Nat → Nat} {h w : Nat} : zVl G (upN val h w) = upN (zVl G val) h (G.2.2.2 (228 + w)) := by
  funext j
  unfold zVl
  by_cases e : j = h
  · subst e; rw [upN_eq, upN_eq]
  · rw [upN_ne e, upN_ne e]
/-- a key more: the tables -/
theorem zHMc.ins {μ' : zM} {tb k cap cap' h kk w i : Nat} {pl : Bool} {ks : List Nat} {val : Nat → Nat} {ky : Nat → Nat} {ft ft' : Nat → Option Nat} {L : Nat → List Nat} {tr : Nat → Bool} {l' : List Nat} {t' : Bool}
    (h2 : ks.Nodup) (h3 : zKy μ ky ks) (h4 : zTab G μ R o tb (2 ^ k) cap ky (zVl G val) ft L tr) (h5 : ∀ x, x ∈ ks ↔ x ∈ L (x % 2 ^ k)) (h6 : pl = true → ∀ i, i < 2 ^ k → tr i = false) (h7 : 1 ≤ k ∧ k ≤ 8) (hcc : cap ≤ cap') (hR : 1 ≤ R)
    (hh : h ∉ ks) (hi : h % 2 ^ k = i) (hk : μ kk = some ((0, 0), oTime (nI (h / 6)) (nI (h % 6)))) (htb : μ' tb = some (hbT R o, aN G (2 ^ k) ft')) (hft : ∀ j, j ≠ i → ft' j = ft j) (hb : zBin μ' R o cap' (upN ky h kk) (upN (zVl G val) h (G.2.2.2 (228 + w))) t' (ft' i) l') (hl : ∀ x, x ∈ l' ↔ x ∈ L i ∨ x = h) (hp : pl = true → t' = false)
    (hkp : zKp (fun c u => c = tb ∨ ∃ x, (x ∈ L i ∨ x = h) ∧ u = hnT R o x) μ μ') : zHMc G μ' R o tb k cap' pl (h :: ks) (upN val h w) := by
  obtain ⟨h40, h41⟩ := h4
  have hn0 : 0 < 2 ^ k := Nat.two_pow_pos k
  have hil : i < 2 ^ k := hi ▸ Nat.mod_lt _ hn0
  have hkp' : zKp (fun _ u => u = hbT R o ∨ ∃ x, (x ∈ L i ∨ x = h) ∧ u = hnT R o x) μ μ' := hkp.tag h40
  have nz : ¬ (((0, 0) : zT) = hbT R o ∨ ∃ x, (x ∈ L i ∨ x = h) ∧ ((0, 0) : zT) = hnT R o x) := by
    rintro (q | ⟨x, -, q⟩)
    · have e1 : 0 = R + 1 := congrArg Prod.fst q
      omega
    · have e1 : 0 = R + 2 + x := congrArg Prod.fst q
      omega
  refine ⟨upN ky h kk, ft', fun j => if j = i then l' else L j, fun j => if j = i then t' else tr j, List.nodup_cons.mpr ⟨hh, h2⟩, ?_, ⟨htb, ?_⟩, ?_, ?_, h7⟩
  · intro x hx
    by_cases e : x = h
    · subst e; rw [upN_eq]; exact hkp' _ _ _ hk nz
    · rw [upN_ne e]; exact hkp' _ _ _ (h3 x ((List.mem_cons.mp hx).resolve_left e)) nz
  · intro j hj
    rw [zVl_up]
    by_cases e : j = i
    · subst e
      try dsimp only
      rw [if_pos rfl, if_pos rfl]
      exact ⟨hb, fun x hx => ((hl x).mp hx).elim (fun q => (h41 _ hj).2 x q) (fun q => q ▸ hi)⟩
    · try dsimp only
      rw [if_neg e, if_neg e, hft j e]
      obtain ⟨g1, g2⟩ := h41 j hj
      refine ⟨(g1.kp hkp' (fun x c hx q => ?_)).congr hcc (fun x hx => ?_), g2⟩
      · rcases q with q | ⟨y, hy, q⟩
        · exact zTb_ne q
        · have e1 := g2 x hx
          rw [hnT_in q] at e1
          rcases hy with hy | hy
          · have := (h41 i hil).2 y hy
            omega
          · rw [hy, hi] at e1
            exact e e1.symm
      · have ne : x ≠ h := fun q => e (by rw [← g2 x hx, q, hi])
        exact ⟨upN_ne ne, upN_ne ne⟩
  · intro x
    rw [List.mem_cons]
    by_cases e : x % 2 ^ k = i
    · try dsimp only
      rw [e, if_pos rfl, hl x, h5 x, e]
      exact ⟨fun q => q.elim Or.inr Or.inl, fun q => q.elim Or.inr Or.inl⟩
    · try dsimp only
      rw [if_neg e, h5 x]
      exact ⟨fun q => q.resolve_left (fun z => e (z ▸ hi)), Or.inr⟩
  · intro q j hj
    by_cases e : j = i
    · subst e
      try dsimp only
      rw [if_pos rfl]
      exact hp q
    · try dsimp only
      rw [if_neg e]
      exact h6 q j hj
theorem C_ani {m : Nat} {x : Int32} : Meets G 1 MJ4_afterNodeInsertion [.ref m, .int x] μ (zVoid μ) 0 0 := by
  refine meets_of (by decide +kernel) (Nat.le_of_ble_eq_true rfl) ?_
  exact aw_return dJ4_afterNodeInsertion_0 rfl (⟨rfl, rfl⟩)
/-- the keys lie in a window -/
def zWin (pl : Bool) (ks : List Nat) (h : Nat) : Prop := pl = true → ∃ w, ∀ x, x ∈ ks ∨ x = h → w ≤ x ∧ x < w + 512
/-- nine numbers, alike by 64 and more, don't lie in a window -/
theorem zWin9 {n w : Nat} {l : List Nat} (hn : 64 ≤ n) (hnd : l.Nodup) (hm : ∀ x, x ∈ l → ∀ y, y ∈ l → x % n = y % n) (hw : ∀ x, x ∈ l → w ≤ x ∧ x < w + 512) : l.length ≤ 8 := by
  -- (x - w) / 64 tells them apart
  have key : (l.map (fun x => (x - w) / 64)).Nodup := by
    refine List.Pairwise.map _ (R := fun x y => x ∈ l ∧ y ∈ l ∧ x ≠ y) ?_ ?_
    · rintro x y ⟨hx, hy, hne⟩ e
      have h1 := hw x hx
      have h2 := hw y hy
      have h3 := hm x hx y hy
      have d1 := Nat.div_add_mod x n
      have d2 := Nat.div_add_mod y n
      have : x / n ≠ y / n := fun q => hne (by rw [← d1, ← d2, q, h3])
      rcases Nat.lt_or_gt_of_ne this with q | q
      · have : n * (x / n) + n ≤ n * (y / n) := by
          have := Nat.mul_le_mul_left n (show x / n + 1 ≤ y / n from q)
          rw [Nat.mul_add] at this
          omega
        omega
      · have : n * (y / n) + n ≤ n * (x / n) := by
          have := Nat.mul_le_mul_left n (show y / n + 1 ≤ x / n from q)
          rw [Nat.mul_add] at this
          omega
        omega
    · have : ∀ (l0 : List Nat), (∀ x, x ∈ l0 → x ∈ l) → l0.Nodup → l0.Pairwise (fun x y => x ∈ l ∧ y ∈ l ∧ x ≠ y) := by
        intro l0
        induction l0 with
        | nil => intro _ _; exact List.Pairwise.nil
        | cons x l0 ih =>
          intro h1 h2
          obtain ⟨g1, g2⟩ := List.nodup_cons.mp h2
          exact List.Pairwise.cons (fun y hy => ⟨h1 x List.mem_cons_self, h1 y (List.mem_cons_of_mem _ hy), fun e => g1 (e ▸ hy)⟩) (ih (fun y hy => h1 y (List.mem_cons_of_mem _ hy)) g2)
      exact this l (fun _ h => h) hnd
  have := zNodLe _ (List.range 8) key (fun x hx => by
    obtain ⟨y, hy, e⟩ := List.mem_map.mp hx
    have := hw y hy
    exact List.mem_range.mpr (by omega))
  rw [List.length_map, List.length_range] at this
  exact this
abbrev zK2 (S k1 : Nat) : Nat := if S + 1 ≤ 3 * 2 ^ k1 / 4 then k1 else k1 + 1
/-- what putVal leaves: a key more; the table may have grown -/
def zPutP (G : zG) (μ : zM) (R o m k : Nat) (es : Option Nat) (mc : Int32) (pl : Bool) (ks : List Nat) (val : Nat → Nat) (h w : Nat) : Option Value → zM → Prop := fun v μ' => v = some .null ∧ ∃ tb, zHMt G μ' R o m tb k (zCap k) es (mc + 1) (ks.length + 1) pl (h :: ks) (upN val h w) ∧ zKp (zMt R o) μ μ'
theorem zHMc.kp {μ' : zM} {tb k cap : Nat} {pl : Bool} {ks : List Nat} {val : Nat → Nat} (h : zHMc G μ R o tb k cap pl ks val) {T : Nat → zT → Prop} (hk : zKp T μ μ') (h1 : ∀ c, ¬ T c (hbT R o)) (h2 : ∀ c x, x < 8192 → ¬ T c (hnT R o x)) (h0 : ∀ c, ¬ T c (0, 0)) : zHMc G μ' R o tb k cap pl ks val := by
  obtain ⟨ky, ft, L, tr, g2, g3, ⟨g4, g5⟩, g6⟩ := h
  refine ⟨ky, ft, L, tr, g2, fun x hx => hk _ _ _ (g3 x hx) (h0 _), ⟨hk _ _ _ g4 (h1 _), fun i hi => ⟨(g5 i hi).1.kp hk (fun x c hx => ?_), (g5 i hi).2⟩⟩, g6⟩
  obtain ⟨_, _, -, -, -, g⟩ := (g5 i hi).1.node
  exact h2 c x (g x hx).1
theorem zK2_le {S k1 : Nat} (hS : S ≤ 125) (h : S ≤ 3 * 2 ^ k1 / 4) (h1 : 1 ≤ k1) (h8 : k1 ≤ 8) : k1 ≤ zK2 S k1 ∧ zK2 S k1 ≤ 8 ∧ S + 1 ≤ 3 * 2 ^ zK2 S k1 / 4 := by
  unfold zK2
  by_cases e : S + 1 ≤ 3 * 2 ^ k1 / 4
  · rw [if_pos e]; exact ⟨Nat.le_refl _, h8, e⟩
  · rw [if_neg e]
    have h7 : k1 ≤ 7 := by
      refine Decidable.byContradiction (fun z => ?_)
      rw [show k1 = 8 by omega] at e
      omega
    have : 2 ^ 1 ≤ 2 ^ k1 := Nat.pow_le_pow_right (by decide) h1
    rw [Nat.pow_succ]
    refine ⟨by omega, by omega, by omega⟩
set_option maxHeartbeats 4000000 in
/-- 259: the counts, and the size -/
theorem pv259 {m tb k1 h w : Nat} {es : Option Nat} {mc ev : Int32} {pl : Bool} {ks : List Nat} {val : Nat → Nat} {μ1 : zM} {L : List (Nat × Value)} (hL : zLs L [(0, .ref m), (5, .int ev)]) (hm : zHMt G μ1 R o m tb k1 (zCap k1) es mc ks.length pl (h :: ks) (upN val h w)) (hS : ks.length ≤ 125) (hS1 : ks.length ≤ 3 * 2 ^ k1 / 4) (hkp : zKp (zMt R o) μ μ1) (hR : 1 ≤ R) : AW G 8 MJ4_putVal (zPutP G μ R o m (zK2 ks.length k1) es mc pl ks val h w) (140 * (zK2 ks.length k1 - k1)) (800 * (zK2 ks.length k1 - k1)) 259 L [] μ1 := by
  obtain ⟨hm1, hc⟩ := hm
  have hk18 : 1 ≤ k1 ∧ k1 ≤ 8 := by
    obtain ⟨-, -, -, -, -, -, -, -, -, g⟩ := hc
    exact g
  have hmz : hmT R o ≠ zC := fun e => by have e1 : R = 0 := congrArg Prod.fst e; omega
  have hm0 := hm1
  have hn256 : 2 ^ k1 ≤ 2 ^ 8 := Nat.pow_le_pow_right (by decide) hk18.2
  obtain ⟨z1, z2, z3⟩ := zK2_le hS hS1 hk18.1 hk18.2
  have z292 : ∀ (μ4 : zM) (tb4 : Nat), zHMt G μ4 R o m tb4 (zK2 ks.length k1) (zCap (zK2 ks.length k1)) es (mc + 1) (ks.length + 1) pl (h :: ks) (upN val h w) → zKp (zMt R o) μ μ4 → AW G 8 MJ4_putVal (zPutP G μ R o m (zK2 ks.length k1) es mc pl ks val h w) 0 0 292 [(0, .ref m), (5, .int ev)] [] μ4 := by
    intro μ4 tb4 h4 hk4
    have hm4 := h4.1
    first | refine aw_aload_n (i := 0) (q := 293) dJ4_putVal_292 rfl rfl rfl ?_ | refine aw_aloadN_n (i := 0) (q := 293) dJ4_putVal_292 rfl rfl rfl ?_ | refine aw_aloadQ_n (i := 0) (q := 293) dJ4_putVal_292 rfl rfl rfl ?_
    refine aw_iload (q := 295) dJ4_putVal_293 rfl rfl ?_
    refine aw_callV (q := 298) dJ4_putVal_295 (C_ani) cv_J4_205_19 (by assumption) rfl rfl (by decide) (by decide) (by first | exact Nat.le_of_ble_eq_true rfl | simp [zcat_rf, Value.category]) rfl (zpv ?_)
    refine aw_null (q := 299) dJ4_putVal_298 rfl ?_
    exact aw_areturnN dJ4_putVal_299 rfl (by first | exact Or.inl ⟨_, rfl⟩ | exact Or.inr ⟨_, rfl⟩) (⟨rfl, tb4, h4, hk4⟩)
  refine aw_locals hL ?_
  first | refine aw_aload_n (i := 0) (q := 260) dJ4_putVal_259 rfl rfl rfl ?_ | refine aw_aloadN_n (i := 0) (q := 260) dJ4_putVal_259 rfl rfl rfl ?_ | refine aw_aloadQ_n (i := 0) (q := 260) dJ4_putVal_259 rfl rfl rfl ?_
  refine aw_dup (q := 261) dJ4_putVal_260 (by first | rfl | exact zcat_rf _) rfl ?_
  refine aw_getfield (q := 264) dJ4_putVal_261 gf_J4_202_19 (by assumption) rfl rfl ?_
  refine aw_iconst (v := 1) (q := 265) dJ4_putVal_264 rfl rfl ?_
  refine aw_iadd (q := 266) dJ4_putVal_265 rfl ?_
  refine aw_putfield (q := 269) dJ4_putVal_266 gf_J4_202_19 hm1 (by first | assumption | simp) (by first | rfl | exact znar_rf _ _ | exact zB_nar _) (by first | rfl | exact zfit_rf _ _ | exact zB_fit _) (Nat.le_of_ble_eq_true rfl) rfl (fun μ2 hg_μ2 => ?_)
  have hm1 : μ2 _ = some _ := hg_μ2 ▸ updM_eq _ _ _
  simp only [List.set] at hm1 hg_μ2
  have hk2 : zKp (fun _ u => u = hmT R o) μ1 μ2 := by rw [hg_μ2]; exact zKp.put hm0 rfl
  have hm2 := hm1
  first | refine aw_aload_n (i := 0) (q := 270) dJ4_putVal_269 rfl rfl rfl ?_ | refine aw_aloadN_n (i := 0) (q := 270) dJ4_putVal_269 rfl rfl rfl ?_ | refine aw_aloadQ_n (i := 0) (q := 270) dJ4_putVal_269 rfl rfl rfl ?_
  refine aw_dup (q := 271) dJ4_putVal_270 (by first | rfl | exact zcat_rf _) rfl ?_
  refine aw_getfield (q := 274) dJ4_putVal_271 gf_J4_156_19 (by assumption) rfl rfl ?_
  refine aw_iconst (v := 1) (q := 275) dJ4_putVal_274 rfl rfl ?_
  refine aw_iadd (q := 276) dJ4_putVal_275 rfl ?_
  try rw [nI_1]
  refine aw_dup_x1 (q := 277) dJ4_putVal_276 (by first | rfl | exact zcat_rf _) (by first | rfl | exact zcat_rf _) rfl ?_
  refine aw_putfield (q := 280) dJ4_putVal_277 gf_J4_156_19 hm1 (by first | assumption | simp) (by first | rfl | exact znar_rf _ _ | exact zB_nar _) (by first | rfl | exact zfit_rf _ _ | exact zB_fit _) (Nat.le_of_ble_eq_true rfl) rfl (fun μ3 hg_μ3 => ?_)
  have hm1 : μ3 _ = some _ := hg_μ3 ▸ updM_eq _ _ _
  simp only [List.set] at hm1 hg_μ3
  have hk3 : zKp (fun _ u => u = hmT R o) μ2 μ3 := by rw [hg_μ3]; exact zKp.put hm2 rfl
  have hk13 := hk2.tr hk3
  have hc3 := hc.kp hk13 (fun c => zTbm_ne) (fun c x _ => zTm_ne) (fun c q => by have e1 : 0 = R := congrArg Prod.fst q; omega)
  have hkp3 : zKp (zMt R o) μ μ3 := hkp.tr (hk13.mono (fun c u q => q ▸ zMt_m))
  first | refine aw_aload_n (i := 0) (q := 281) dJ4_putVal_280 rfl rfl rfl ?_ | refine aw_aloadN_n (i := 0) (q := 281) dJ4_putVal_280 rfl rfl rfl ?_ | refine aw_aloadQ_n (i := 0) (q := 281) dJ4_putVal_280 rfl rfl rfl ?_
  refine aw_getfield (q := 284) dJ4_putVal_281 gf_J4_88_19 (by assumption) rfl rfl ?_
  by_cases e : ks.length + 1 ≤ 3 * 2 ^ k1 / 4
  · have ek : zK2 ks.length k1 = k1 := if_pos e
    rw [ek] at z292 ⊢
    refine aw_icmp_le (tgt := 292) (q := 287) dJ4_putVal_284 (by decide) rfl (fun _ => ?_) (fun hZ => absurd (nI_le e (by omega)) hZ)
    refine AW.bud (aw_locals ?_ (z292 μ3 tb ⟨hm1, hc3⟩ hkp3)) (by omega) (by omega)
    exact ⟨rfl, rfl, trivial⟩
  · have ek : zK2 ks.length k1 = k1 + 1 := if_neg e
    rw [ek] at z292 z2 ⊢
    have hn7 : 2 ^ (k1 + 1) ≤ 2 ^ 8 := Nat.pow_le_pow_right (by decide) z2
    refine AW.bud (bc' := 0 + (1 + (h :: ks).length)) (bs' := 0 + (2 ^ (k1 + 1) + 4 * (h :: ks).length)) ?_ (by simp only [List.length_cons]; omega) (by simp only [List.length_cons]; omega)
    refine aw_icmp_le (tgt := 292) (q := 287) dJ4_putVal_284 (by decide) rfl (fun hZ => absurd hZ (nI_ge (a := 3 * 2 ^ k1 / 4) (b := ks.length + 1) (by omega) (by omega))) (fun _ => ?_)
    first | refine aw_aload_n (i := 0) (q := 288) dJ4_putVal_287 rfl rfl rfl ?_ | refine aw_aloadN_n (i := 0) (q := 288) dJ4_putVal_287 rfl rfl rfl ?_ | refine aw_aloadQ_n (i := 0) (q := 288) dJ4_putVal_287 rfl rfl rfl ?_
    refine aw_callV (q := 291) dJ4_putVal_288 (C_resizeT (sz := ks.length + 1) ⟨hm1, hc3⟩ zCap_mono.1 (by omega) hR) cv_J4_117_19 (by assumption) rfl rfl (by decide) (by decide) (by first | exact Nat.le_of_ble_eq_true rfl | simp [zcat_rf, Value.category]) rfl (fun v288 μ4 hp => ?_)
    obtain ⟨tn, rfl, h4, hk4⟩ := hp
    refine aw_pop (q := 292) dJ4_putVal_291 (by first | rfl | exact zcat_rf _) rfl ?_
    refine aw_locals ?_ (z292 μ4 tn h4 (hkp3.tr hk4))
    exact ⟨rfl, rfl, trivial⟩
set_option maxHeartbeats 8000000 in
/-- 29: putVal, of a new key, into a map with a table -/
theorem pv29 {m tb k h kk w : Nat} {es : Option Nat} {mc ev : Int32} {pl : Bool} {ks : List Nat} {val : Nat → Nat} (hm : zHMt G μ R o m tb k (zCap k) es mc ks.length pl ks val) (hS1 : ks.length ≤ 3 * 2 ^ k / 4) (hS : ks.length ≤ 125) (hh : h ∉ ks) (h8 : h < 8192) (hkk : μ kk = some ((0, 0), oTime (nI (h / 6)) (nI (h % 6)))) (hwin : zWin pl ks h) (hR : 1 ≤ R) :
    ∃ k', k ≤ k' ∧ k' ≤ 8 ∧ ks.length + 1 ≤ 3 * 2 ^ k' / 4 ∧ (ks = [] → k' = zK2 0 k) ∧ AW G 8 MJ4_putVal (zPutP G μ R o m k' es mc pl ks val h w) (12 + 140 * (k' - k)) (150 + 800 * (k' - k)) 29 [(0, .ref m), (1, .int (nI h)), (2, .ref kk), (3, .ref (G.2.2.2 (228 + w))), (5, .int ev), (6, .ref tb), (8, .int (nI (2 ^ k)))] [] μ := by
  obtain ⟨hm1, ky, ft, L, tr, h2, h3, h4, h5, h6, h71, h72⟩ := hm
  have h40 := h4.1
  have hn256 : 2 ^ k ≤ 2 ^ 8 := Nat.pow_le_pow_right (by decide) h72
  have hn0 : 0 < 2 ^ k := Nat.two_pow_pos k
  have htz : hbT R o ≠ zC := fun e => by have e1 : R + 1 = 0 := congrArg Prod.fst e; omega
  have hil : h % 2 ^ k < 2 ^ k := Nat.mod_lt _ hn0
  obtain ⟨hbin, hbm⟩ := h4.2 (h % 2 ^ k) hil
  have hhl : h ∉ L (h % 2 ^ k) := fun q => hh ((h5 h).mpr q)
  have hm0 := hm1
  try simp only [zrf_s] at hm1
  have pre : ∀ (post : Option Value → zM → Prop) (bc bs : Nat), AW G 8 MJ4_putVal post bc bs 41 [(0, .ref m), (1, .int (nI h)), (2, .ref kk), (3, .ref (G.2.2.2 (228 + w))), (5, .int ev), (6, .ref tb), (8, .int (nI (2 ^ k))), (9, .int (nI (h % 2 ^ k)))] [va_rf (ft (h % 2 ^ k))] μ → AW G 8 MJ4_putVal post bc bs 29 [(0, .ref m), (1, .int (nI h)), (2, .ref kk), (3, .ref (G.2.2.2 (228 + w))), (5, .int ev), (6, .ref tb), (8, .int (nI (2 ^ k)))] [] μ := by
    intro post bc bs kk'
    generalize hN : 2 ^ k = n at *
    first | refine aw_aload (q := 31) dJ4_putVal_29 rfl rfl ?_ | refine aw_aloadN (q := 31) dJ4_putVal_29 rfl rfl ?_ | refine aw_aloadQ (q := 31) dJ4_putVal_29 rfl rfl ?_
    refine aw_iload (q := 33) dJ4_putVal_31 rfl rfl ?_
    refine aw_iconst (v := 1) (q := 34) dJ4_putVal_33 rfl rfl ?_
    refine aw_isub (q := 35) dJ4_putVal_34 rfl ?_
    refine aw_iload_n (i := 1) (q := 36) dJ4_putVal_35 rfl rfl rfl ?_
    refine aw_iand (q := 37) dJ4_putVal_36 rfl ?_
    refine aw_dup (q := 38) dJ4_putVal_37 (by first | rfl | exact zcat_rf _) rfl ?_
    refine aw_istore (q := 40) dJ4_putVal_38 (by decide) rfl ?_
    rw [show nI n - 1 = nI (n - 1) by rw [show n = (n - 1) + 1 by omega]; exact nI_pred _, i_mask hN (by omega) (by omega)]
    first | refine aw_aaldO (q := 41) (v := ft (h % n)) (h % n) dJ4_putVal_40 (by assumption) (by first | assumption | (simp only [← nI_add, ← pk_mul]; rfl) | rfl) (by omega) (by omega) (rfl) rfl ?_ | refine aw_aaldP (q := 41) (v := ft (h % n)) (h % n) dJ4_putVal_40 (by assumption) (by first | assumption | (simp only [← nI_add, ← pk_mul]; rfl) | rfl) (by omega) (by omega) (rfl) rfl ?_ | refine aw_aaldN (q := 41) (v := ft (h % n)) (h % n) dJ4_putVal_40 (by assumption) (by first | assumption | (simp only [← nI_add, ← pk_mul]; rfl) | rfl) (by omega) (by omega) (rfl) rfl ?_
    refine aw_locals ?_ kk'
    exact ⟨rfl, rfl, rfl, rfl, rfl, rfl, rfl, rfl, trivial⟩
  have nM : ∀ (l : List Nat), ¬ (m = tb ∨ ∃ x, (x ∈ l ∨ x = h) ∧ hmT R o = hnT R o x) := by
    rintro l (q | ⟨x, -, q⟩)
    · exact zneq hm0 h40 (by simp) q
    · exact zTm_ne q.symm
  have frm : ∀ (l : List Nat) (μ' : zM), (∀ x, x ∈ l → x < 8192) → zKp (fun c u => c = tb ∨ ∃ x, (x ∈ l ∨ x = h) ∧ u = hnT R o x) μ μ' → zKp (zMt R o) μ μ' := fun l μ' hl hk => (hk.tag h40).mono (fun c u q => q.elim (fun q => q ▸ zMt_b) (fun ⟨x, h1, q⟩ => q ▸ zMt_n (h1.elim (hl x) (fun e => e ▸ h8))))
  have hl8 : ∀ x, x ∈ L (h % 2 ^ k) → x < 8192 := fun x hx => by
    obtain ⟨_, _, -, -, -, g⟩ := hbin.node
    exact (g x hx).1
  have c8 : 8 ≤ zCap k := zCap_mono.2.1
  rcases hL : L (h % 2 ^ k) with _ | ⟨x, l⟩
  · -- an empty bin
    obtain ⟨z1, z2, z3⟩ := zK2_le hS hS1 h71 h72
    refine ⟨_, z1, z2, z3, fun e => by rw [e]; rfl, pre _ _ _ ?_⟩
    have hf : ft (h % 2 ^ k) = none := by
      obtain ⟨ν, nx, hf, -⟩ := hbin
      rw [hf, hL]; rfl
    refine AW.bud (bc' := 140 * (zK2 ks.length k - k) + 1) (bs' := 800 * (zK2 ks.length k - k) + 4) ?_ (by omega) (by omega)
    rw [hf]
    simp only [zrf_n]
    refine aw_dup (q := 42) dJ4_putVal_41 (by first | rfl | exact zcat_rf _) rfl ?_
    first | refine aw_astore (q := 44) dJ4_putVal_42 (by decide) rfl ?_ | refine aw_astoreN (q := 44) dJ4_putVal_42 (by decide) rfl ?_ | refine aw_astoreQ (q := 44) dJ4_putVal_42 (by decide) rfl ?_
    try simp (config := {decide := true}) only [zput, zdel_q, zdel_f, zdel_t, zdel_nil, zdel_r, zdel_i, zdel_n]
    refine aw_ifnonnull_n (q := 47) dJ4_putVal_44 rfl ?_
    first | refine aw_aload (q := 49) dJ4_putVal_47 rfl rfl ?_ | refine aw_aloadN (q := 49) dJ4_putVal_47 rfl rfl ?_ | refine aw_aloadQ (q := 49) dJ4_putVal_47 rfl rfl ?_
    refine aw_iload (q := 51) dJ4_putVal_49 rfl rfl ?_
    first | refine aw_aload_n (i := 0) (q := 52) dJ4_putVal_51 rfl rfl rfl ?_ | refine aw_aloadN_n (i := 0) (q := 52) dJ4_putVal_51 rfl rfl rfl ?_ | refine aw_aloadQ_n (i := 0) (q := 52) dJ4_putVal_51 rfl rfl rfl ?_
    refine aw_iload_n (i := 1) (q := 53) dJ4_putVal_52 rfl rfl rfl ?_
    first | refine aw_aload_n (i := 2) (q := 54) dJ4_putVal_53 rfl rfl rfl ?_ | refine aw_aloadN_n (i := 2) (q := 54) dJ4_putVal_53 rfl rfl rfl ?_ | refine aw_aloadQ_n (i := 2) (q := 54) dJ4_putVal_53 rfl rfl rfl ?_
    first | refine aw_aload_n (i := 3) (q := 55) dJ4_putVal_54 rfl rfl rfl ?_ | refine aw_aloadN_n (i := 3) (q := 55) dJ4_putVal_54 rfl rfl rfl ?_ | refine aw_aloadQ_n (i := 3) (q := 55) dJ4_putVal_54 rfl rfl rfl ?_
    refine aw_null (q := 56) dJ4_putVal_55 rfl ?_
    refine aw_callV (q := 59) dJ4_putVal_56 (C_newNode (r := none) (u := hnT R o h) hnT_nz) cv_J4_186_19 (by assumption) rfl rfl (by decide) (by decide) (by first | exact Nat.le_of_ble_eq_true rfl | simp [zcat_rf, Value.category]) rfl (fun v56 μ2 hp => ?_)
    obtain ⟨c, rfl, hcn, hg⟩ := hp
    have hc2 : μ2 c = some _ := hg ▸ updM_eq _ _ _
    have hk2 : zKp (fun _ _ => False) μ μ2 := hg ▸ zKp.new hcn
    have htb2 := hk2 _ _ _ h40 (fun q => q)
    refine aw_aastX (j := 5) (E := "java/util/HashMap$Node") (h % 2 ^ k) (q := 60) dJ4_putVal_59 rfl htb2 htz hc2 ca_13_J18 rfl hil (by omega) rfl (fun μ3 hg_μ3 => ?_)
    have htb3 : μ3 tb = some _ := hg_μ3 ▸ updM_eq _ _ _
    have hc3 : μ3 c = some _ := hg_μ3 ▸ (updM_ne (zneq hc2 htb2 (by simp))).trans hc2
    have hk3 : zKp (fun c u => c = tb ∨ ∃ x, (x ∈ L (h % 2 ^ k) ∨ x = h) ∧ u = hnT R o x) μ μ3 := (hk2.mono (fun c u q => q.elim)).tr (hg_μ3 ▸ zKp.up.mono (fun c u q => Or.inl q))
    have hb3 : zBin μ3 R o (zCap k) (upN ky h kk) (upN (zVl G val) h (G.2.2.2 (228 + w))) false (some c) [h] := by
      refine ⟨fun _ => c, fun _ => none, rfl, ⟨rfl, trivial⟩, List.nodup_cons.mpr ⟨List.not_mem_nil, List.nodup_nil⟩, fun _ => ⟨fun x hx => ?_, by simp only [List.length_cons, List.length_nil]; omega⟩, fun q => by cases q⟩
      rw [List.mem_singleton.mp hx, upN_eq, upN_eq]
      exact ⟨h8, hc3⟩
    have hfin := zHMc.ins (cap' := zCap k) (w := w) h2 h3 h4 h5 h6 ⟨h71, h72⟩ (Nat.le_refl _) hR hh rfl hkk htb3 (fun j hj => va_up_ne _ _ hj) (by rw [va_up_self]; exact hb3) (fun x => by rw [hL]; exact ⟨fun q => Or.inr (List.mem_singleton.mp q), fun q => q.elim (fun q => absurd q List.not_mem_nil) (fun q => q ▸ List.mem_cons_self)⟩) (fun _ => rfl) hk3
    have hm3 := hk3 _ _ _ hm0 (nM _)
    refine aw_goto (tgt := 259) dJ4_putVal_60 (by decide) ?_
    exact pv259 ⟨rfl, rfl, trivial⟩ ⟨hm3, hfin⟩ hS hS1 (frm _ _ hl8 hk3) hR
  · have hxl : x ∈ L (h % 2 ^ k) := by rw [hL]; exact List.mem_cons_self
    have hxh : x ≠ h := fun e => hhl (e ▸ hxl)
    have hne : ∀ {A : Prop}, ks = [] → A := fun e => absurd ((h5 x).mpr (by rw [hbm x hxl]; exact hxl)) (by rw [e]; exact List.not_mem_nil)
    cases htr : tr (h % 2 ^ k) with
    | true =>
      -- a tree
      rw [htr] at hbin
      obtain ⟨ν, nx, hf, hc, hnd, -, hT⟩ := hbin
      obtain ⟨pa, le, ri, pv, rd, a, b, hT, hTr, hv⟩ := hT rfl
      obtain ⟨z1, z2, z3⟩ := zK2_le hS hS1 h71 h72
      refine ⟨_, z1, z2, z3, hne, pre _ _ _ ?_⟩
      have hx0 : (L (h % 2 ^ k)).head? = some x := by rw [hL]; rfl
      have hfx : ft (h % 2 ^ k) = some (ν x) := by rw [hf, hx0]; rfl
      obtain ⟨hx8, hx1⟩ := hT x hxl
      refine AW.bud (bc' := 140 * (zK2 ks.length k - k) + 1) (bs' := 800 * (zK2 ks.length k - k) + 11) ?_ (by omega) (by omega)
      rw [hfx]
      simp only [zrf_s]
      refine aw_dup (q := 42) dJ4_putVal_41 (by first | rfl | exact zcat_rf _) rfl ?_
      first | refine aw_astore (q := 44) dJ4_putVal_42 (by decide) rfl ?_ | refine aw_astoreN (q := 44) dJ4_putVal_42 (by decide) rfl ?_ | refine aw_astoreQ (q := 44) dJ4_putVal_42 (by decide) rfl ?_
      try simp (config := {decide := true}) only [zput, zdel_q, zdel_f, zdel_t, zdel_nil, zdel_r, zdel_i, zdel_n]
      refine aw_ifnonnull_r (tgt := 63) dJ4_putVal_44 (by decide) ?_
      first | refine aw_aload (q := 65) dJ4_putVal_63 rfl rfl ?_ | refine aw_aloadN (q := 65) dJ4_putVal_63 rfl rfl ?_ | refine aw_aloadQ (q := 65) dJ4_putVal_63 rfl rfl ?_
      first | refine aw_getfield (q := 68) dJ4_putVal_65 gf_J4_168_13 (by assumption) rfl rfl ?_ | refine aw_getfield (q := 68) dJ4_putVal_65 gf_J4_168_15 (by assumption) rfl rfl ?_ | refine aw_nd (i := 0) (q := 68) dJ4_putVal_65 gf_J4_168_13 gf_J4_168_15 (by assumption) rfl rfl ?_
      refine aw_iload_n (i := 1) (q := 69) dJ4_putVal_68 rfl rfl rfl ?_
      refine aw_icmp_ne (tgt := 104) (q := 72) dJ4_putVal_69 (by decide) rfl (fun _ => ?_) (fun hZ => absurd hZ ((fun q => hxh ((nI_eq (by omega) (by omega)).mp q))))
      first | refine aw_aload (q := 106) dJ4_putVal_104 rfl rfl ?_ | refine aw_aloadN (q := 106) dJ4_putVal_104 rfl rfl ?_ | refine aw_aloadQ (q := 106) dJ4_putVal_104 rfl rfl ?_
      refine aw_instY (q := 109) dJ4_putVal_106 q739 hx1 ca_15_J23 rfl ?_
      refine aw_if_eq (tgt := 131) (q := 112) dJ4_putVal_109 (by decide) rfl (fun hZ => absurd hZ ((by decide))) (fun _ => ?_)
      first | refine aw_aload (q := 114) dJ4_putVal_112 rfl rfl ?_ | refine aw_aloadN (q := 114) dJ4_putVal_112 rfl rfl ?_ | refine aw_aloadQ (q := 114) dJ4_putVal_112 rfl rfl ?_
      refine aw_cast (q := 117) dJ4_putVal_114 q739 hx1 ca_15_J23 rfl ?_
      first | refine aw_aload_n (i := 0) (q := 118) dJ4_putVal_117 rfl rfl rfl ?_ | refine aw_aloadN_n (i := 0) (q := 118) dJ4_putVal_117 rfl rfl rfl ?_ | refine aw_aloadQ_n (i := 0) (q := 118) dJ4_putVal_117 rfl rfl rfl ?_
      first | refine aw_aload (q := 120) dJ4_putVal_118 rfl rfl ?_ | refine aw_aloadN (q := 120) dJ4_putVal_118 rfl rfl ?_ | refine aw_aloadQ (q := 120) dJ4_putVal_118 rfl rfl ?_
      refine aw_iload_n (i := 1) (q := 121) dJ4_putVal_120 rfl rfl rfl ?_
      first | refine aw_aload_n (i := 2) (q := 122) dJ4_putVal_121 rfl rfl rfl ?_ | refine aw_aloadN_n (i := 2) (q := 122) dJ4_putVal_121 rfl rfl rfl ?_ | refine aw_aloadQ_n (i := 2) (q := 122) dJ4_putVal_121 rfl rfl rfl ?_
      first | refine aw_aload_n (i := 3) (q := 123) dJ4_putVal_122 rfl rfl rfl ?_ | refine aw_aloadN_n (i := 3) (q := 123) dJ4_putVal_122 rfl rfl rfl ?_ | refine aw_aloadQ_n (i := 3) (q := 123) dJ4_putVal_122 rfl rfl rfl ?_
      refine aw_callV (q := 126) dJ4_putVal_123 (C_putTreeVal (cap := zCap k) (i := h % 2 ^ k) hm0 h40 rfl h72 rfl h8 hf hT hTr hc hv hnd hx0 hbm hhl hR) cv_J4_190_15 (by assumption) rfl rfl (by decide) (by decide) (by first | exact Nat.le_of_ble_eq_true rfl | simp [zcat_rf, Value.category]) rfl (fun v123 μ3 hp => ?_)
      obtain ⟨rfl, f, l', p1, p2, p3, p4⟩ := hp
      have hpl : pl = true → true = false := fun q => by rw [← htr]; exact h6 q _ hil
      have hfin := zHMc.ins (cap' := zCap k) (w := w) h2 h3 h4 h5 h6 ⟨h71, h72⟩ (Nat.le_refl _) hR hh rfl hkk p1 (fun j hj => va_up_ne _ _ hj) (by rw [va_up_self]; exact p2) p3 hpl p4
      have hm3 := p4 _ _ _ hm0 (nM _)
      first | refine aw_astore (q := 128) dJ4_putVal_126 (by decide) rfl ?_ | refine aw_astoreN (q := 128) dJ4_putVal_126 (by decide) rfl ?_ | refine aw_astoreQ (q := 128) dJ4_putVal_126 (by decide) rfl ?_
      refine aw_goto (tgt := 222) dJ4_putVal_128 (by decide) ?_
      first | refine aw_aload (q := 224) dJ4_putVal_222 rfl rfl ?_ | refine aw_aloadN (q := 224) dJ4_putVal_222 rfl rfl ?_ | refine aw_aloadQ (q := 224) dJ4_putVal_222 rfl rfl ?_
      refine aw_ifnull_n (tgt := 259) dJ4_putVal_224 (by decide) ?_
      exact pv259 ⟨rfl, rfl, trivial⟩ ⟨hm3, hfin⟩ hS hS1 (frm _ _ hl8 p4) hR
    | false =>
      rw [htr] at hbin
      obtain ⟨ν, nx, hf, hc, hnd, hP, -⟩ := hbin
      obtain ⟨hP, hlen⟩ := hP rfl
      have hx0 : (L (h % 2 ^ k)).head? = some x := by rw [hL]; rfl
      have hfx : ft (h % 2 ^ k) = some (ν x) := by rw [hf, hx0]; rfl
      have hx1 := (hP x hxl).2
      -- the walk to the end of the list
      have walk : ∀ (post : Option Value → zM → Prop) (bc bs : Nat), (∀ (μ3 : zM) (ν3 : Nat → Nat) (nx3 : Nat → Option Nat), zPn μ3 R o ν3 (upN ky h kk) (upN (zVl G val) h (G.2.2.2 (228 + w))) nx3 (fun y => y ∈ L (h % 2 ^ k) ∨ y = h) → zCh nx3 (L (h % 2 ^ k) ++ [h]) → ft (h % 2 ^ k) = (L (h % 2 ^ k) ++ [h]).head?.map ν3 → zKp (fun c u => c = tb ∨ ∃ x, (x ∈ L (h % 2 ^ k) ∨ x = h) ∧ u = hnT R o x) μ μ3 → μ3 tb = some (hbT R o, aN G (2 ^ k) ft) → AW G 8 MJ4_putVal post bc bs 158 [(0, .ref m), (1, .int (nI h)), (5, .int ev), (6, .ref tb), (10, .null), (12, .int (nI ((L (h % 2 ^ k)).length - 1)))] [] μ3) → AW G 8 MJ4_putVal post (bc + 1) (bs + 4) 29 [(0, .ref m), (1, .int (nI h)), (2, .ref kk), (3, .ref (G.2.2.2 (228 + w))), (5, .int ev), (6, .ref tb), (8, .int (nI (2 ^ k)))] [] μ := by
        intro post bc bs kend
        have loop : ∀ (rest done : List Nat) (z : Nat), L (h % 2 ^ k) = done ++ z :: rest → zCh nx (z :: rest) → AW G 8 MJ4_putVal post (bc + 1) (bs + 4) 134 [(0, .ref m), (1, .int (nI h)), (2, .ref kk), (3, .ref (G.2.2.2 (228 + w))), (5, .int ev), (6, .ref tb), (7, .ref (ν z)), (12, .int (nI done.length))] [] μ := by
          intro rest
          induction rest with
          | nil =>
            intro done z hl hcr
            have hzl : z ∈ L (h % 2 ^ k) := by rw [hl]; exact List.mem_append_right _ List.mem_cons_self
            obtain ⟨hz8, hz1⟩ := hP z hzl
            rw [hcr.1] at hz1
            simp only [List.head?_nil, Option.map_none, zrf_n] at hz1
            first | refine aw_aload (q := 136) dJ4_putVal_134 rfl rfl ?_ | refine aw_aloadN (q := 136) dJ4_putVal_134 rfl rfl ?_ | refine aw_aloadQ (q := 136) dJ4_putVal_134 rfl rfl ?_
            first | refine aw_getfield (q := 139) dJ4_putVal_136 gf_J4_177_13 (by assumption) rfl rfl ?_ | refine aw_getfield (q := 139) dJ4_putVal_136 gf_J4_177_15 (by assumption) rfl rfl ?_ | refine aw_nd (i := 3) (q := 139) dJ4_putVal_136 gf_J4_177_13 gf_J4_177_15 (by assumption) rfl rfl ?_
            refine aw_dup (q := 140) dJ4_putVal_139 (by first | rfl | exact zcat_rf _) rfl ?_
            first | refine aw_astore (q := 142) dJ4_putVal_140 (by decide) rfl ?_ | refine aw_astoreN (q := 142) dJ4_putVal_140 (by decide) rfl ?_ | refine aw_astoreQ (q := 142) dJ4_putVal_140 (by decide) rfl ?_
            refine aw_ifnonnull_n (q := 145) dJ4_putVal_142 rfl ?_
            first | refine aw_aload (q := 147) dJ4_putVal_145 rfl rfl ?_ | refine aw_aloadN (q := 147) dJ4_putVal_145 rfl rfl ?_ | refine aw_aloadQ (q := 147) dJ4_putVal_145 rfl rfl ?_
            first | refine aw_aload_n (i := 0) (q := 148) dJ4_putVal_147 rfl rfl rfl ?_ | refine aw_aloadN_n (i := 0) (q := 148) dJ4_putVal_147 rfl rfl rfl ?_ | refine aw_aloadQ_n (i := 0) (q := 148) dJ4_putVal_147 rfl rfl rfl ?_
            refine aw_iload_n (i := 1) (q := 149) dJ4_putVal_148 rfl rfl rfl ?_
            first | refine aw_aload_n (i := 2) (q := 150) dJ4_putVal_149 rfl rfl rfl ?_ | refine aw_aloadN_n (i := 2) (q := 150) dJ4_putVal_149 rfl rfl rfl ?_ | refine aw_aloadQ_n (i := 2) (q := 150) dJ4_putVal_149 rfl rfl rfl ?_
            first | refine aw_aload_n (i := 3) (q := 151) dJ4_putVal_150 rfl rfl rfl ?_ | refine aw_aloadN_n (i := 3) (q := 151) dJ4_putVal_150 rfl rfl rfl ?_ | refine aw_aloadQ_n (i := 3) (q := 151) dJ4_putVal_150 rfl rfl rfl ?_
            refine aw_null (q := 152) dJ4_putVal_151 rfl ?_
            refine aw_callV (q := 155) dJ4_putVal_152 (C_newNode (r := none) (u := hnT R o h) hnT_nz) cv_J4_186_19 (by assumption) rfl rfl (by decide) (by decide) (by first | exact Nat.le_of_ble_eq_true rfl | simp [zcat_rf, Value.category]) rfl (fun v152 μ2 hp => ?_)
            obtain ⟨c, rfl, hcn, hg⟩ := hp
            have hk2 : zKp (fun c u => c = tb ∨ ∃ x, (x ∈ L (h % 2 ^ k) ∨ x = h) ∧ u = hnT R o x) μ μ2 := hg ▸ zKp.new hcn
            have hP' : zPn μ R o ν (upN ky h kk) (upN (zVl G val) h (G.2.2.2 (228 + w))) nx (· ∈ L (h % 2 ^ k)) := fun y hy => by
              have ne : y ≠ h := fun e => hhl (e ▸ hy)
              rw [upN_ne ne, upN_ne ne]
              exact hP y hy
            have hP2 := hP'.new (μ' := μ2) (c := c) (x := h) (fun y hy v hv => zCh_in hc y hy v hv) hhl h8 hcn (by rw [upN_eq, upN_eq]; exact hg)
            have e1 : upN ν h c h = c := upN_eq
            have e2 : ∀ y, y ∈ L (h % 2 ^ k) → upN ν h c y = ν y := fun y hy => upN_ne (fun e => hhl (e ▸ hy))
            have e3 : ft (h % 2 ^ k) = (L (h % 2 ^ k) ++ [h]).head?.map (upN ν h c) := by
              rw [hf, hL]
              exact congrArg some (e2 x hxl).symm
            rw [← e2 z hzl]
            generalize upN ν h c = ν3 at hP2 e1 e2 e3 ⊢
            subst e1
            have hz2 := (hP2 z (Or.inl hzl)).2
            first | refine aw_putfield (q := 158) dJ4_putVal_155 gf_J4_177_13 hz2 (by first | assumption | simp) (by first | rfl | exact znar_rf _ _ | exact zB_nar _) (by first | rfl | exact zfit_rf _ _ | exact zB_fit _) (Nat.le_of_ble_eq_true rfl) rfl (fun μ3 hg_μ3 => ?_) | refine aw_putfield (q := 158) dJ4_putVal_155 gf_J4_177_15 hz2 (by first | assumption | simp) (by first | rfl | exact znar_rf _ _ | exact zB_nar _) (by first | rfl | exact zfit_rf _ _ | exact zB_fit _) (Nat.le_of_ble_eq_true rfl) rfl (fun μ3 hg_μ3 => ?_)
            have hz2 : μ3 _ = some _ := hg_μ3 ▸ updM_eq _ _ _
            simp only [List.set] at hz2 hg_μ3
            have hP3 := hP2.p_nx (Or.inl hzl) (some h) hg_μ3
            have hk3 : zKp (fun c u => c = tb ∨ ∃ x, (x ∈ L (h % 2 ^ k) ∨ x = h) ∧ u = hnT R o x) μ2 μ3 := hg_μ3 ▸ zKp.put (hP2 z (Or.inl hzl)).2 (Or.inr ⟨z, Or.inl hzl, rfl⟩)
            have hc3 := (hl ▸ hc : zCh nx (done ++ [z])).snoc (hl ▸ hnd) (hl ▸ hhl)
            rw [← hl] at hc3
            have htb2 : μ2 tb = some _ := hg ▸ (updM_ne (zneN h40 hcn)).trans h40
            have htb3 : μ3 tb = some _ := hg_μ3 ▸ (updM_ne (zneq htb2 (hP2 z (Or.inl hzl)).2 (by simp))).trans htb2
            refine aw_locals ?_ (kend μ3 ν3 _ hP3 hc3 e3 (hk2.tr hk3) htb3)
            exact ⟨rfl, rfl, rfl, rfl, rfl, by rw [hl, List.length_append]; rfl, trivial⟩
          | cons y rest ih =>
            intro done z hl hcr
            have hzl : z ∈ L (h % 2 ^ k) := by rw [hl]; exact List.mem_append_right _ List.mem_cons_self
            have hyl : y ∈ L (h % 2 ^ k) := by rw [hl]; exact List.mem_append_right _ (List.mem_cons_of_mem _ List.mem_cons_self)
            obtain ⟨hz8, hz1⟩ := hP z hzl
            have hy1 := (hP y hyl).2
            have hy8 := (hP y hyl).1
            have hyh : y ≠ h := fun e => hhl (e ▸ hyl)
            rw [hcr.1] at hz1
            simp only [List.head?_cons, Option.map_some, zrf_s] at hz1
            first | refine aw_aload (q := 136) dJ4_putVal_134 rfl rfl ?_ | refine aw_aloadN (q := 136) dJ4_putVal_134 rfl rfl ?_ | refine aw_aloadQ (q := 136) dJ4_putVal_134 rfl rfl ?_
            first | refine aw_getfield (q := 139) dJ4_putVal_136 gf_J4_177_13 (by assumption) rfl rfl ?_ | refine aw_getfield (q := 139) dJ4_putVal_136 gf_J4_177_15 (by assumption) rfl rfl ?_ | refine aw_nd (i := 3) (q := 139) dJ4_putVal_136 gf_J4_177_13 gf_J4_177_15 (by assumption) rfl rfl ?_
            refine aw_dup (q := 140) dJ4_putVal_139 (by first | rfl | exact zcat_rf _) rfl ?_
            first | refine aw_astore (q := 142) dJ4_putVal_140 (by decide) rfl ?_ | refine aw_astoreN (q := 142) dJ4_putVal_140 (by decide) rfl ?_ | refine aw_astoreQ (q := 142) dJ4_putVal_140 (by decide) rfl ?_
            refine aw_ifnonnull_r (tgt := 175) dJ4_putVal_142 (by decide) ?_
            first | refine aw_aload (q := 177) dJ4_putVal_175 rfl rfl ?_ | refine aw_aloadN (q := 177) dJ4_putVal_175 rfl rfl ?_ | refine aw_aloadQ (q := 177) dJ4_putVal_175 rfl rfl ?_
            first | refine aw_getfield (q := 180) dJ4_putVal_177 gf_J4_168_13 (by assumption) rfl rfl ?_ | refine aw_getfield (q := 180) dJ4_putVal_177 gf_J4_168_15 (by assumption) rfl rfl ?_ | refine aw_nd (i := 0) (q := 180) dJ4_putVal_177 gf_J4_168_13 gf_J4_168_15 (by assumption) rfl rfl ?_
            refine aw_iload_n (i := 1) (q := 181) dJ4_putVal_180 rfl rfl rfl ?_
            refine aw_icmp_ne (tgt := 212) (q := 184) dJ4_putVal_181 (by decide) rfl (fun _ => ?_) (fun hZ => absurd hZ ((fun q => hyh ((nI_eq (by omega) (by omega)).mp q))))
            first | refine aw_aload (q := 214) dJ4_putVal_212 rfl rfl ?_ | refine aw_aloadN (q := 214) dJ4_putVal_212 rfl rfl ?_ | refine aw_aloadQ (q := 214) dJ4_putVal_212 rfl rfl ?_
            first | refine aw_astore (q := 216) dJ4_putVal_214 (by decide) rfl ?_ | refine aw_astoreN (q := 216) dJ4_putVal_214 (by decide) rfl ?_ | refine aw_astoreQ (q := 216) dJ4_putVal_214 (by decide) rfl ?_
            try simp (config := {decide := true}) only [zput, zdel_q, zdel_f, zdel_t, zdel_nil, zdel_r, zdel_i, zdel_n]
            refine aw_iinc (q := 219) dJ4_putVal_216 rfl (by first | exact nI_1 _ | rfl) (by decide) rfl ?_
            try simp (config := {decide := true}) only [zput, zdel_q, zdel_f, zdel_t, zdel_nil, zdel_r, zdel_i, zdel_n]
            refine aw_goto (tgt := 134) dJ4_putVal_219 (by decide) ?_
            try rw [nI_1]
            refine aw_locals ?_ (ih (done ++ [z]) y (by rw [hl, List.append_assoc]; rfl) hcr.2)
            exact ⟨rfl, rfl, rfl, rfl, rfl, rfl, rfl, by rw [List.length_append]; rfl, trivial⟩
        refine pre _ _ _ ?_
        rw [hfx]
        simp only [zrf_s]
        have hx8 := (hP x hxl).1
        refine aw_dup (q := 42) dJ4_putVal_41 (by first | rfl | exact zcat_rf _) rfl ?_
        first | refine aw_astore (q := 44) dJ4_putVal_42 (by decide) rfl ?_ | refine aw_astoreN (q := 44) dJ4_putVal_42 (by decide) rfl ?_ | refine aw_astoreQ (q := 44) dJ4_putVal_42 (by decide) rfl ?_
        try simp (config := {decide := true}) only [zput, zdel_q, zdel_f, zdel_t, zdel_nil, zdel_r, zdel_i, zdel_n]
        refine aw_ifnonnull_r (tgt := 63) dJ4_putVal_44 (by decide) ?_
        first | refine aw_aload (q := 65) dJ4_putVal_63 rfl rfl ?_ | refine aw_aloadN (q := 65) dJ4_putVal_63 rfl rfl ?_ | refine aw_aloadQ (q := 65) dJ4_putVal_63 rfl rfl ?_
        first | refine aw_getfield (q := 68) dJ4_putVal_65 gf_J4_168_13 (by assumption) rfl rfl ?_ | refine aw_getfield (q := 68) dJ4_putVal_65 gf_J4_168_15 (by assumption) rfl rfl ?_ | refine aw_nd (i := 0) (q := 68) dJ4_putVal_65 gf_J4_168_13 gf_J4_168_15 (by assumption) rfl rfl ?_
        refine aw_iload_n (i := 1) (q := 69) dJ4_putVal_68 rfl rfl rfl ?_
        refine aw_icmp_ne (tgt := 104) (q := 72) dJ4_putVal_69 (by decide) rfl (fun _ => ?_) (fun hZ => absurd hZ ((fun q => hxh ((nI_eq (by omega) (by omega)).mp q))))
        first | refine aw_aload (q := 106) dJ4_putVal_104 rfl rfl ?_ | refine aw_aloadN (q := 106) dJ4_putVal_104 rfl rfl ?_ | refine aw_aloadQ (q := 106) dJ4_putVal_104 rfl rfl ?_
        refine aw_instNo (q := 109) dJ4_putVal_106 q739 hx1 rfl (by simp [zNcL]; decide +kernel) rfl ?_
        refine aw_if_eq (tgt := 131) (q := 112) dJ4_putVal_109 (by decide) rfl (fun _ => ?_) (fun hZ => absurd (rfl) hZ)
        refine aw_iconst (v := 0) (q := 132) dJ4_putVal_131 rfl rfl ?_
        refine aw_istore (q := 134) dJ4_putVal_132 (by decide) rfl ?_
        try simp (config := {decide := true}) only [zput, zdel_q, zdel_f, zdel_t, zdel_nil, zdel_r, zdel_i, zdel_n]
        refine aw_locals ?_ (loop l [] x hL (hL ▸ hc))
        exact ⟨rfl, rfl, rfl, rfl, rfl, rfl, rfl, rfl, trivial⟩
      have hlS : (L (h % 2 ^ k)).length ≤ ks.length := zNodLe _ _ hnd (fun y hy => (h5 y).mpr (by rw [hbm y hy]; exact hy))
      have hl1 : 1 ≤ (L (h % 2 ^ k)).length := by rw [hL]; simp only [List.length_cons]; omega
      have hins : ∀ (μ3 : zM) (ν3 : Nat → Nat) (nx3 : Nat → Option Nat) (cap' : Nat), zPn μ3 R o ν3 (upN ky h kk) (upN (zVl G val) h (G.2.2.2 (228 + w))) nx3 (fun y => y ∈ L (h % 2 ^ k) ∨ y = h) → zCh nx3 (L (h % 2 ^ k) ++ [h]) → ft (h % 2 ^ k) = (L (h % 2 ^ k) ++ [h]).head?.map ν3 → zKp (fun c u => c = tb ∨ ∃ x, (x ∈ L (h % 2 ^ k) ∨ x = h) ∧ u = hnT R o x) μ μ3 → μ3 tb = some (hbT R o, aN G (2 ^ k) ft) → zCap k ≤ cap' → (L (h % 2 ^ k)).length + 1 ≤ cap' → zHMc G μ3 R o tb k cap' pl (h :: ks) (upN val h w) := by
        intro μ3 ν3 nx3 cap' g1 g2 g3 g4 g5 g6 g7
        refine zHMc.ins (l' := L (h % 2 ^ k) ++ [h]) (t' := false) h2 h3 h4 h5 h6 ⟨h71, h72⟩ g6 hR hh rfl hkk g5 (fun j _ => rfl) ⟨ν3, nx3, g3, g2, zNodup_snoc hnd hhl, fun _ => ⟨fun y hy => g1 y ?_, by rw [List.length_append]; exact g7⟩, fun q => by cases q⟩ (fun y => ?_) (fun _ => rfl) g4
        · exact (List.mem_append.mp hy).elim Or.inl (fun q => Or.inr (List.mem_singleton.mp q))
        · rw [List.mem_append, List.mem_singleton]
      by_cases h7 : (L (h % 2 ^ k)).length ≤ 7
      · obtain ⟨z1, z2, z3⟩ := zK2_le hS hS1 h71 h72
        refine ⟨_, z1, z2, z3, hne, ?_⟩
        rw [show 12 + 140 * (zK2 ks.length k - k) = (11 + 140 * (zK2 ks.length k - k)) + 1 by omega, show 150 + 800 * (zK2 ks.length k - k) = (146 + 800 * (zK2 ks.length k - k)) + 4 by omega]
        refine walk _ _ _ (fun μ3 ν3 nx3 g1 g2 g3 g4 htb3 => ?_)
        have hfin := hins μ3 ν3 nx3 (zCap k) g1 g2 g3 g4 htb3 (Nat.le_refl _) (by omega)
        have hm3 := g4 _ _ _ hm0 (nM _)
        refine aw_iload (q := 160) dJ4_putVal_158 rfl rfl ?_
        refine aw_bipush (v := 7) (q := 162) dJ4_putVal_160 rfl rfl ?_
        refine aw_icmp_lt (tgt := 222) (q := 165) dJ4_putVal_162 (by decide) rfl (fun _ => ?_) (fun hZ => absurd (nI_lt (b := 7) (by omega) (by decide)) hZ)
        first | refine aw_aload (q := 224) dJ4_putVal_222 rfl rfl ?_ | refine aw_aloadN (q := 224) dJ4_putVal_222 rfl rfl ?_ | refine aw_aloadQ (q := 224) dJ4_putVal_222 rfl rfl ?_
        refine aw_ifnull_n (tgt := 259) dJ4_putVal_224 (by decide) ?_
        refine AW.bud (pv259 ⟨rfl, rfl, trivial⟩ ⟨hm3, hfin⟩ hS hS1 (frm _ _ hl8 g4) hR) (by omega) (by omega)
      · by_cases hk6 : k < 6
        · have hk4 : 4 ≤ k := by
            refine Decidable.byContradiction (fun z => ?_)
            have : 2 ^ k ≤ 2 ^ 3 := Nat.pow_le_pow_right (by decide) (by omega)
            omega
          have hS1' : ks.length ≤ 3 * 2 ^ (k + 1) / 4 := by rw [Nat.pow_succ]; omega
          obtain ⟨z1, z2, z3⟩ := zK2_le hS hS1' (by omega) (show k + 1 ≤ 8 by omega)
          have hn6 : 2 ^ (k + 1) ≤ 2 ^ 6 := Nat.pow_le_pow_right (by decide) (by omega)
          have hcap : (L (h % 2 ^ k)).length + 1 ≤ zCap (k + 1) := by
            rcases (show k = 4 ∨ k = 5 by omega) with e | e
            · subst e
              have : zCap 4 = 8 := rfl
              have : zCap (4 + 1) = 9 := rfl
              omega
            · subst e
              have : zCap 5 = 9 := rfl
              have : zCap (5 + 1) = 10 := rfl
              omega
          refine ⟨_, by omega, z2, z3, hne, ?_⟩
          rw [show 12 + 140 * (zK2 ks.length (k + 1) - k) = (140 * (zK2 ks.length (k + 1) - (k + 1)) + 151) + 1 by omega, show 150 + 800 * (zK2 ks.length (k + 1) - k) = (800 * (zK2 ks.length (k + 1) - (k + 1)) + 946) + 4 by omega]
          refine walk _ _ _ (fun μ3 ν3 nx3 g1 g2 g3 g4 htb3 => ?_)
          have hfin := hins μ3 ν3 nx3 (zCap (k + 1)) g1 g2 g3 g4 htb3 zCap_mono.1 hcap
          have hm3 := g4 _ _ _ hm0 (nM _)
          refine AW.bud (bc' := 140 * (zK2 ks.length (k + 1) - (k + 1)) + (1 + (h :: ks).length)) (bs' := 800 * (zK2 ks.length (k + 1) - (k + 1)) + (2 ^ (k + 1) + 4 * (h :: ks).length)) ?_ (by simp only [List.length_cons]; omega) (by simp only [List.length_cons]; omega)
          refine aw_iload (q := 160) dJ4_putVal_158 rfl rfl ?_
          refine aw_bipush (v := 7) (q := 162) dJ4_putVal_160 rfl rfl ?_
          refine aw_icmp_lt (tgt := 222) (q := 165) dJ4_putVal_162 (by decide) rfl (fun hZ => absurd hZ (nI_nlt (b := 7) (by omega) (by omega))) (fun _ => ?_)
          first | refine aw_aload_n (i := 0) (q := 166) dJ4_putVal_165 rfl rfl rfl ?_ | refine aw_aloadN_n (i := 0) (q := 166) dJ4_putVal_165 rfl rfl rfl ?_ | refine aw_aloadQ_n (i := 0) (q := 166) dJ4_putVal_165 rfl rfl rfl ?_
          first | refine aw_aload (q := 168) dJ4_putVal_166 rfl rfl ?_ | refine aw_aloadN (q := 168) dJ4_putVal_166 rfl rfl ?_ | refine aw_aloadQ (q := 168) dJ4_putVal_166 rfl rfl ?_
          refine aw_iload_n (i := 1) (q := 169) dJ4_putVal_168 rfl rfl rfl ?_
          refine aw_callV (q := 172) dJ4_putVal_169 (C_tfBS (sz := ks.length) ⟨hm3, hfin⟩ (Nat.le_refl _) hk6 hR) cv_J4_194_19 (by assumption) rfl rfl (by decide) (by decide) (by first | exact Nat.le_of_ble_eq_true rfl | simp [zcat_rf, Value.category]) rfl (fun v169 μ4 hp => ?_)
          obtain ⟨rfl, tn, t1, t2⟩ := hp
          refine aw_goto (tgt := 222) dJ4_putVal_172 (by decide) ?_
          first | refine aw_aload (q := 224) dJ4_putVal_222 rfl rfl ?_ | refine aw_aloadN (q := 224) dJ4_putVal_222 rfl rfl ?_ | refine aw_aloadQ (q := 224) dJ4_putVal_222 rfl rfl ?_
          refine aw_ifnull_n (tgt := 259) dJ4_putVal_224 (by decide) ?_
          exact pv259 ⟨rfl, rfl, trivial⟩ t1 hS hS1' ((frm _ _ hl8 g4).tr t2) hR
        · obtain ⟨z1, z2, z3⟩ := zK2_le hS hS1 h71 h72
          have hn64 : 2 ^ 6 ≤ 2 ^ k := Nat.pow_le_pow_right (by decide) (by omega)
          have hpl : pl = true → true = false := by
            intro q
            obtain ⟨w0, hw0⟩ := hwin q
            have := zWin9 (n := 2 ^ k) (w := w0) (l := h :: L (h % 2 ^ k)) (by omega) (List.nodup_cons.mpr ⟨hhl, hnd⟩) ?_ ?_
            · simp only [List.length_cons] at this; omega
            · have ek : ∀ x, x ∈ h :: L (h % 2 ^ k) → x % 2 ^ k = h % 2 ^ k := fun x hx => (List.mem_cons.mp hx).elim (fun q => by rw [q]) (hbm x)
              intro x hx y hy
              rw [ek x hx, ek y hy]
            · intro x hx
              exact hw0 x ((List.mem_cons.mp hx).elim Or.inr (fun q => Or.inl ((h5 x).mpr (by rw [hbm x q]; exact q))))
          refine ⟨_, z1, z2, z3, hne, ?_⟩
          rw [show 12 + 140 * (zK2 ks.length k - k) = (140 * (zK2 ks.length k - k) + 11) + 1 by omega, show 150 + 800 * (zK2 ks.length k - k) = (800 * (zK2 ks.length k - k) + 146) + 4 by omega]
          refine walk _ _ _ (fun μ3 ν3 nx3 g1 g2 g3 g4 htb3 => ?_)
          have hm3 := g4 _ _ _ hm0 (nM _)
          have c10 : zCap k ≤ 10 := zCap_mono.2.2
          have hx1L : (L (h % 2 ^ k) ++ [h]).head? = some x := by rw [hL]; rfl
          have hmI : ∀ y, y ∈ L (h % 2 ^ k) ++ [h] ↔ y ∈ L (h % 2 ^ k) ∨ y = h := fun y => by rw [List.mem_append, List.mem_singleton]
          refine AW.bud (bc' := 140 * (zK2 ks.length k - k) + (L (h % 2 ^ k) ++ [h]).length) (bs' := 800 * (zK2 ks.length k - k) + 11 * (L (h % 2 ^ k) ++ [h]).length) ?_ (by rw [List.length_append]; simp only [List.length_cons, List.length_nil]; omega) (by rw [List.length_append]; simp only [List.length_cons, List.length_nil]; omega)
          refine aw_iload (q := 160) dJ4_putVal_158 rfl rfl ?_
          refine aw_bipush (v := 7) (q := 162) dJ4_putVal_160 rfl rfl ?_
          refine aw_icmp_lt (tgt := 222) (q := 165) dJ4_putVal_162 (by decide) rfl (fun hZ => absurd hZ (nI_nlt (b := 7) (by omega) (by omega))) (fun _ => ?_)
          first | refine aw_aload_n (i := 0) (q := 166) dJ4_putVal_165 rfl rfl rfl ?_ | refine aw_aloadN_n (i := 0) (q := 166) dJ4_putVal_165 rfl rfl rfl ?_ | refine aw_aloadQ_n (i := 0) (q := 166) dJ4_putVal_165 rfl rfl rfl ?_
          first | refine aw_aload (q := 168) dJ4_putVal_166 rfl rfl ?_ | refine aw_aloadN (q := 168) dJ4_putVal_166 rfl rfl ?_ | refine aw_aloadQ (q := 168) dJ4_putVal_166 rfl rfl ?_
          refine aw_iload_n (i := 1) (q := 169) dJ4_putVal_168 rfl rfl rfl ?_
          refine aw_callV (q := 172) dJ4_putVal_169 (C_tfB (cap := zCap k) (l := L (h % 2 ^ k) ++ [h]) hm3 htb3 rfl (by omega) h72 rfl h8 g3 (fun y hy => g1 y ((hmI y).mp hy)) g2 (zNodup_snoc hnd hhl) hx1L (fun y hy => ((hmI y).mp hy).elim (hbm y) (fun e => by rw [e])) hR) cv_J4_194_19 (by assumption) rfl rfl (by decide) (by decide) (by first | exact Nat.le_of_ble_eq_true rfl | simp [zcat_rf, Value.category]) rfl (fun v169 μ4 hp => ?_)
          obtain ⟨rfl, f, l', t1, t2, t3, t4⟩ := hp
          have hk4 : zKp (fun c u => c = tb ∨ ∃ x, (x ∈ L (h % 2 ^ k) ∨ x = h) ∧ u = hnT R o x) μ μ4 := g4.tr (t4.mono (fun c u q => q.imp id (fun ⟨y, h1, h2⟩ => ⟨y, (hmI y).mp h1, h2⟩)))
          have hfin := zHMc.ins (cap' := zCap k) (w := w) h2 h3 h4 h5 h6 ⟨h71, h72⟩ (Nat.le_refl _) hR hh rfl hkk t1 (fun j hj => va_up_ne _ _ hj) (by rw [va_up_self]; exact t2) (fun y => (t3 y).trans (hmI y)) hpl hk4
          have hm4 := hk4 _ _ _ hm0 (nM _)
          refine aw_goto (tgt := 222) dJ4_putVal_172 (by decide) ?_
          first | refine aw_aload (q := 224) dJ4_putVal_222 rfl rfl ?_ | refine aw_aloadN (q := 224) dJ4_putVal_222 rfl rfl ?_ | refine aw_aloadQ (q := 224) dJ4_putVal_222 rfl rfl ?_
          refine aw_ifnull_n (tgt := 259) dJ4_putVal_224 (by decide) ?_
          exact pv259 ⟨rfl, rfl, trivial⟩ ⟨hm4, hfin⟩ hS hS1 (frm _ _ hl8 hk4) hR
theorem AW.weaken {d : Nat} {Y : zMI} {post post' : Option Value → zM → Prop} {bc bs pc : Nat} {L : List (Nat × Value)} {S : List Value} {μ : zM} (h : AW G d Y post bc bs pc L S μ) (hp : ∀ v μ', post v μ' → post' v μ') : AW G d Y post' bc bs pc L S μ := by
  intro p l e s m args below meth c H locs cells slots MC MS ls X hl hH hS hc hs T hT XX
  obtain ⟨t, a1, o, b1, b2, ⟨⟨⟨v, μ', q1, q2, q3⟩, q4⟩, q5⟩⟩ := h p l e s m args below meth c H locs cells slots MC MS ls X hl hH hS hc hs T hT XX
  exact ⟨t, a1, o, b1, b2, ⟨⟨⟨v, μ', q1, hp v μ' q2, q3⟩, q4⟩, q5⟩⟩
/-- THE MAP, of rank k (0: no table yet) -/
def zHMk (G : zG) (μ : zM) (R o m k : Nat) (pl : Bool) (ks : List Nat) (val : Nat → Nat) : Prop := (∃ (tb : Nat) (es : Option Nat) (mc : Int32), zHMt G μ R o m tb k (zCap k) es mc ks.length pl ks val ∧ ks.length ≤ 3 * 2 ^ k / 4 ∧ zEs μ m es) ∨ (k = 0 ∧ ks = [] ∧ ∃ (es : Option Nat) (mc : Int32) (thr : Nat), zHM0 μ R o m es mc thr ∧ zEs μ m es)
theorem zHMk.hm {m k : Nat} {pl : Bool} {ks : List Nat} {val : Nat → Nat} (h : zHMk G μ R o m k pl ks val) : zHM G μ R o m pl ks val := by
  rcases h with ⟨tb, es, mc, h1, h2⟩ | ⟨h1, h2, es, mc, thr, h3⟩
  · exact Or.inl ⟨tb, k, es, mc, h1, h2⟩
  · exact Or.inr ⟨h2, es, mc, thr, h3⟩
theorem zHM.rank {m : Nat} {pl : Bool} {ks : List Nat} {val : Nat → Nat} (h : zHM G μ R o m pl ks val) : ∃ k, k ≤ 8 ∧ zHMk G μ R o m k pl ks val := by
  rcases h with ⟨tb, k, es, mc, h1, h2⟩ | ⟨h2, es, mc, thr, h3⟩
  · refine ⟨k, ?_, Or.inl ⟨tb, es, mc, h1, h2⟩⟩
    obtain ⟨-, -, -, -, -, -, -, -, -, -, -, h8⟩ := h1
    exact h8
  · exact ⟨0, by omega, Or.inr ⟨rfl, h2, es, mc, thr, h3⟩⟩
set_option maxHeartbeats 4000000 in
theorem C_putVal {m k h kk w : Nat} {oi ev : Int32} {pl : Bool} {ks : List Nat} {val : Nat → Nat} (hm : zHMk G μ R o m k pl ks val) (hS : ks.length ≤ 125) (hh : h ∉ ks) (h8 : h < 8192) (hkk : μ kk = some ((0, 0), oTime (nI (h / 6)) (nI (h % 6)))) (hwin : zWin pl ks h) (hR : 1 ≤ R) :
    ∃ k', k ≤ k' ∧ k' ≤ 8 ∧ Meets G 8 MJ4_putVal [.ref m, .int (nI h), .ref kk, .ref (G.2.2.2 (228 + w)), .int oi, .int ev] μ (fun v μ' => v = some .null ∧ zHMk G μ' R o m k' pl (h :: ks) (upN val h w) ∧ zKp (zMt R o) μ μ') (12 + 140 * (k' - k)) (150 + 800 * (k' - k)) := by
  rcases hm with ⟨tb, es, mc, h1, h2, hes⟩ | ⟨rfl, rfl, es, mc, thr, h3, hes⟩
  · obtain ⟨k', g1, g2, g3, -, g4⟩ := pv29 (w := w) (ev := ev) h1 h2 hS hh h8 hkk hwin hR
    refine ⟨k', g1, g2, ?_⟩
    have hm1 := h1.1
    obtain ⟨ft, htb⟩ : ∃ ft, μ tb = some (hbT R o, aN G (2 ^ k) ft) := by
      obtain ⟨-, ky, ft, L, tr, -, -, ⟨htb, -⟩, -⟩ := h1
      exact ⟨ft, htb⟩
    have hk8 : k ≤ 8 := by omega
    have hn256 : 2 ^ k ≤ 2 ^ 8 := Nat.pow_le_pow_right (by decide) hk8
    try simp only [zrf_s] at hm1
    refine meets_of (by decide +kernel) (Nat.le_of_ble_eq_true rfl) ?_
    first | refine aw_aload_n (i := 0) (q := 1) dJ4_putVal_0 rfl rfl rfl ?_ | refine aw_aloadN_n (i := 0) (q := 1) dJ4_putVal_0 rfl rfl rfl ?_ | refine aw_aloadQ_n (i := 0) (q := 1) dJ4_putVal_0 rfl rfl rfl ?_
    refine aw_getfield (q := 4) dJ4_putVal_1 gf_J4_105_19 (by assumption) rfl rfl ?_
    refine aw_dup (q := 5) dJ4_putVal_4 (by first | rfl | exact zcat_rf _) rfl ?_
    first | refine aw_astore (q := 7) dJ4_putVal_5 (by decide) rfl ?_ | refine aw_astoreN (q := 7) dJ4_putVal_5 (by decide) rfl ?_ | refine aw_astoreQ (q := 7) dJ4_putVal_5 (by decide) rfl ?_
    refine aw_ifnull_r (q := 10) dJ4_putVal_7 rfl ?_
    first | refine aw_aload (q := 12) dJ4_putVal_10 rfl rfl ?_ | refine aw_aloadN (q := 12) dJ4_putVal_10 rfl rfl ?_ | refine aw_aloadQ (q := 12) dJ4_putVal_10 rfl rfl ?_
    first | refine aw_alenI (q := 13) dJ4_putVal_12 (by assumption) rfl ?_ | refine aw_alenO (q := 13) dJ4_putVal_12 (by assumption) rfl ?_ | refine aw_alenN (q := 13) dJ4_putVal_12 (by assumption) rfl ?_ | refine aw_alenB (q := 13) dJ4_putVal_12 (by assumption) rfl ?_ | refine aw_alenP (q := 13) dJ4_putVal_12 (by assumption) rfl ?_
    refine aw_dup (q := 14) dJ4_putVal_13 (by first | rfl | exact zcat_rf _) rfl ?_
    refine aw_istore (q := 16) dJ4_putVal_14 (by decide) rfl ?_
    try simp (config := {decide := true}) only [zput, zdel_q, zdel_f, zdel_t, zdel_nil, zdel_r, zdel_i, zdel_n]
    refine aw_if_ne (tgt := 29) (q := 19) dJ4_putVal_16 (by decide) rfl (fun _ => ?_) (fun hZ => absurd hZ (nI_ne0 (Nat.two_pow_pos k) (by omega)))
    refine aw_locals ?_ (g4.weaken ?_)
    · exact ⟨rfl, rfl, rfl, rfl, rfl, rfl, rfl, trivial⟩
    · rintro v μ' ⟨rfl, tb', p1, p2⟩
      exact ⟨rfl, Or.inl ⟨tb', es, _, p1, g3, fun e he => p2 _ _ _ (hes e he) (fun q => by have e1 : R ≤ 0 := q.2.1; omega)⟩, p2⟩
  · obtain ⟨k0, k1, k8, -, -, hrs⟩ := C_resize0 (G := G) (pl := pl) (val := val) h3 hR
    -- the rank doesn't depend on the memory behind resize: the put of a first key into an empty table of 2^k0
    have hz : zK2 0 k0 = k0 := by
      have : 2 ^ 1 ≤ 2 ^ k0 := Nat.pow_le_pow_right (by decide) k1
      exact if_pos (by omega)
    refine ⟨k0, Nat.zero_le _, k8, ?_⟩
    have hn256 : 2 ^ k0 ≤ 2 ^ 8 := Nat.pow_le_pow_right (by decide) k8
    have hm1 := h3.1
    try simp only [zrf_n] at hm1
    refine meets_of (by decide +kernel) (Nat.le_of_ble_eq_true rfl) ?_
    refine AW.bud (bc' := (12 + 140 * (k0 - k0)) + 1) (bs' := (150 + 800 * (k0 - k0)) + 2 ^ k0) ?_ (by omega) (by omega)
    first | refine aw_aload_n (i := 0) (q := 1) dJ4_putVal_0 rfl rfl rfl ?_ | refine aw_aloadN_n (i := 0) (q := 1) dJ4_putVal_0 rfl rfl rfl ?_ | refine aw_aloadQ_n (i := 0) (q := 1) dJ4_putVal_0 rfl rfl rfl ?_
    refine aw_getfield (q := 4) dJ4_putVal_1 gf_J4_105_19 (by assumption) rfl rfl ?_
    refine aw_dup (q := 5) dJ4_putVal_4 (by first | rfl | exact zcat_rf _) rfl ?_
    first | refine aw_astore (q := 7) dJ4_putVal_5 (by decide) rfl ?_ | refine aw_astoreN (q := 7) dJ4_putVal_5 (by decide) rfl ?_ | refine aw_astoreQ (q := 7) dJ4_putVal_5 (by decide) rfl ?_
    refine aw_ifnull_n (tgt := 19) dJ4_putVal_7 (by decide) ?_
    first | refine aw_aload_n (i := 0) (q := 20) dJ4_putVal_19 rfl rfl rfl ?_ | refine aw_aloadN_n (i := 0) (q := 20) dJ4_putVal_19 rfl rfl rfl ?_ | refine aw_aloadQ_n (i := 0) (q := 20) dJ4_putVal_19 rfl rfl rfl ?_
    refine aw_callV (q := 23) dJ4_putVal_20 (hrs) cv_J4_117_19 (by assumption) rfl rfl (by decide) (by decide) (by first | exact Nat.le_of_ble_eq_true rfl | simp [zcat_rf, Value.category]) rfl (fun v20 μ1 hp => ?_)
    obtain ⟨tb, rfl, p1, p2⟩ := hp
    have hkk1 := p2 _ _ _ hkk (fun q => by have e1 : R ≤ 0 := q.2.1; omega)
    obtain ⟨ft, htb⟩ : ∃ ft, μ1 tb = some (hbT R o, aN G (2 ^ k0) ft) := by
      obtain ⟨-, ky, ft, L, tr, -, -, ⟨htb, -⟩, -⟩ := p1
      exact ⟨ft, htb⟩
    obtain ⟨k', g1, g2, g3, g5, g4⟩ := pv29 (w := w) (ev := ev) p1 (Nat.zero_le _) (Nat.zero_le _) hh h8 hkk1 hwin hR
    rw [g5 rfl, hz] at g3 g4
    refine aw_dup (q := 24) dJ4_putVal_23 (by first | rfl | exact zcat_rf _) rfl ?_
    first | refine aw_astore (q := 26) dJ4_putVal_24 (by decide) rfl ?_ | refine aw_astoreN (q := 26) dJ4_putVal_24 (by decide) rfl ?_ | refine aw_astoreQ (q := 26) dJ4_putVal_24 (by decide) rfl ?_
    first | refine aw_alenI (q := 27) dJ4_putVal_26 (by assumption) rfl ?_ | refine aw_alenO (q := 27) dJ4_putVal_26 (by assumption) rfl ?_ | refine aw_alenN (q := 27) dJ4_putVal_26 (by assumption) rfl ?_ | refine aw_alenB (q := 27) dJ4_putVal_26 (by assumption) rfl ?_ | refine aw_alenP (q := 27) dJ4_putVal_26 (by assumption) rfl ?_
    refine aw_istore (q := 29) dJ4_putVal_27 (by decide) rfl ?_
    try simp (config := {decide := true}) only [zput, zdel_q, zdel_f, zdel_t, zdel_nil, zdel_r, zdel_i, zdel_n]
    refine aw_locals ?_ (g4.weaken ?_)
    · exact ⟨rfl, rfl, rfl, rfl, rfl, rfl, rfl, trivial⟩
    · rintro v μ' ⟨rfl, tb', q1, q2⟩
      exact ⟨rfl, Or.inl ⟨tb', es, _, q1, g3, fun e he => (p2.tr q2) _ _ _ (hes e he) (fun q => by have e1 : R ≤ 0 := q.2.1; omega)⟩, p2.tr q2⟩
/-- put is putVal -/
theorem C_HM_putW {m h kk x : Nat} {fs : List Value} {post : Option Value → zM → Prop} {mc ms : Nat} (hobj : μ m = some (hmT R o, .inr (19, fs))) (h8 : h < 8192) (hkk : μ kk = some ((0, 0), oTime (nI (h / 6)) (nI (h % 6)))) (g : Meets G 8 MJ4_putVal [.ref m, .int (nI h), .ref kk, .ref x, .int 0, .int 1] μ post mc ms) (hpost : ∀ v μ', post v μ' → v = some .null) : Meets G 9 MJ4_put [.ref m, .ref kk, .ref x] μ post mc ms := by
  refine meets_of (by decide +kernel) (Nat.le_of_ble_eq_true rfl) ?_
  first | refine aw_aload_n (i := 0) (q := 1) dJ4_put_0 rfl rfl rfl ?_ | refine aw_aloadN_n (i := 0) (q := 1) dJ4_put_0 rfl rfl rfl ?_ | refine aw_aloadQ_n (i := 0) (q := 1) dJ4_put_0 rfl rfl rfl ?_
  first | refine aw_aload_n (i := 1) (q := 2) dJ4_put_1 rfl rfl rfl ?_ | refine aw_aloadN_n (i := 1) (q := 2) dJ4_put_1 rfl rfl rfl ?_ | refine aw_aloadQ_n (i := 1) (q := 2) dJ4_put_1 rfl rfl rfl ?_
  refine aw_callS (q := 5) dJ4_put_2 (C_hash hkk (by omega)) cs_J4_149 rfl rfl (by decide) (by decide) (by first | exact Nat.le_of_ble_eq_true rfl | simp [zcat_rf, Value.category]) rfl (zpk ?_)
  first | refine aw_aload_n (i := 1) (q := 6) dJ4_put_5 rfl rfl rfl ?_ | refine aw_aloadN_n (i := 1) (q := 6) dJ4_put_5 rfl rfl rfl ?_ | refine aw_aloadQ_n (i := 1) (q := 6) dJ4_put_5 rfl rfl rfl ?_
  first | refine aw_aload_n (i := 2) (q := 7) dJ4_put_6 rfl rfl rfl ?_ | refine aw_aloadN_n (i := 2) (q := 7) dJ4_put_6 rfl rfl rfl ?_ | refine aw_aloadQ_n (i := 2) (q := 7) dJ4_put_6 rfl rfl rfl ?_
  refine aw_iconst (v := 0) (q := 8) dJ4_put_7 rfl rfl ?_
  refine aw_iconst (v := 1) (q := 9) dJ4_put_8 rfl rfl ?_
  refine AW.bud (bc' := 0 + mc) (bs' := 0 + ms) ?_ (by omega) (by omega)
  refine aw_callV (q := 12) dJ4_put_9 (g) cv_J4_152_19 (by assumption) rfl rfl (by decide) (by decide) (by first | exact Nat.le_of_ble_eq_true rfl | simp [zcat_rf, Value.category]) rfl (fun v9 μ1 hp => ?_)
  have hpp := hp
  obtain rfl := hpost _ _ hpp
  exact aw_areturnN dJ4_put_12 rfl (by first | exact Or.inl ⟨_, rfl⟩ | exact Or.inr ⟨_, rfl⟩) (hpp)
/-- put, of a new key -/
theorem C_HM_put {m k h kk w : Nat} {pl : Bool} {ks : List Nat} {val : Nat → Nat} (hm : zHMk G μ R o m k pl ks val) (hS : ks.length ≤ 125) (hh : h ∉ ks) (h8 : h < 8192) (hkk : μ kk = some ((0, 0), oTime (nI (h / 6)) (nI (h % 6)))) (hwin : zWin pl ks h) (hR : 1 ≤ R) :
    ∃ k', k ≤ k' ∧ k' ≤ 8 ∧ Meets G 9 MJ4_put [.ref m, .ref kk, .ref (G.2.2.2 (228 + w))] μ (fun v μ' => v = some .null ∧ zHMk G μ' R o m k' pl (h :: ks) (upN val h w) ∧ zKp (zMt R o) μ μ') (12 + 140 * (k' - k)) (150 + 800 * (k' - k)) := by
  obtain ⟨k', g1, g2, g3⟩ := C_putVal (w := w) (oi := 0) (ev := 1) hm hS hh h8 hkk hwin hR
  refine ⟨k', g1, g2, ?_⟩
  obtain ⟨fs, hobj⟩ : ∃ fs, μ m = some (hmT R o, .inr (19, fs)) := by
    rcases hm with ⟨tb, es, mc, ⟨h1, -⟩, -⟩ | ⟨-, -, es, mc, thr, ⟨h2, -⟩, -⟩
    · exact ⟨_, h1⟩
    · exact ⟨_, h2⟩
  exact C_HM_putW hobj h8 hkk g3 (fun v μ' q => q.1)
end ZPU
