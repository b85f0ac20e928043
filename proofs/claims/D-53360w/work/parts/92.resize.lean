/-! HASH MAPS: resize -/
set_option maxRecDepth 100000
theorem zNodRev : ∀ {l : List Nat}, l.Nodup → l.reverse.Nodup
  | [], _ => List.nodup_nil
  | x :: l, h => by
    obtain ⟨h1, h2⟩ := List.nodup_cons.mp h
    rw [List.reverse_cons]
    exact zNodup_snoc (zNodRev h2) (fun q => h1 (List.mem_reverse.mp q))
theorem zKp.tag {X : zT → Prop} {μ μ' : zM} {tb : Nat} {t : zT} {e : va_E} (h : zKp (fun c u => c = tb ∨ X u) μ μ') (ht : μ tb = some (t, e)) : zKp (fun _ u => u = t ∨ X u) μ μ' := by
  intro c u e' hc hn
  refine h c u e' hc (fun q => hn (q.imp (fun q => ?_) id))
  rw [q, ht] at hc
  cases hc
  rfl
theorem zTb_ne {R o x : Nat} : hnT R o x ≠ hbT R o := fun q => by have e1 : R + 2 + x = R + 1 := congrArg Prod.fst q; omega
theorem zTm_ne {R o x : Nat} : hnT R o x ≠ hmT R o := fun q => by have e1 : R + 2 + x = R := congrArg Prod.fst q; omega
theorem zTbm_ne {R o : Nat} : hbT R o ≠ hmT R o := fun q => by have e1 : R + 1 = R := congrArg Prod.fst q; omega
/-- what becomes of bin j in the new table -/
def zDone (G : zG) (μ : zM) (R o tn n j cap : Nat) (ky vl : Nat → Nat) (ft : Nat → Option Nat) (l : List Nat) (tr : Bool) (μ' : zM) : Prop := ∃ (ft' : Nat → Option Nat) (lo hi : List Nat) (tlo thi : Bool), μ' tn = some (hbT R o, aN G (2 * n) ft') ∧ (∀ i, i ≠ j → i ≠ j + n → ft' i = ft i) ∧ zBin μ' R o cap ky vl tlo (ft' j) lo ∧ zBin μ' R o cap ky vl thi (ft' (j + n)) hi ∧ (∀ x, x ∈ lo ↔ x ∈ l ∧ x / n % 2 = 0) ∧ (∀ x, x ∈ hi ↔ x ∈ l ∧ ¬ x / n % 2 = 0) ∧ (tr = false → tlo = false ∧ thi = false) ∧ zKp (fun c u => c = tn ∨ ∃ h, h ∈ l ∧ u = hnT R o h) μ μ'
section ZRS
variable {G : zG} {μ : zM} {R o : Nat} {ν ky vl : Nat → Nat} {nx : Nat → Option Nat} {post : Option Value → zM → Prop}
abbrev zRL (m tb n tn j : Nat) : List (Nat × Value) := [(0, .ref m), (1, .ref tb), (2, .int (nI n)), (4, .int (nI (2 * n))), (6, .ref tn), (7, .int (nI j))]
abbrev zKB (R o tn : Nat) (l : List Nat) : Nat → zT → Prop := fun c u => c = tn ∨ ∃ h, h ∈ l ∧ u = hnT R o h
set_option maxHeartbeats 4000000 in
/-- 309: a plain bin's two lists go into the new table -/
theorem rsz_end {m tb tn n k j cap bc bs : Nat} {ft : Nat → Option Nat} {l rl rh : List Nat} {μ0 μ1 : zM} {L : List (Nat × Value)} (hL : zLs L [(0, .ref m), (1, .ref tb), (2, .int (nI n)), (4, .int (nI (2 * n))), (6, .ref tn), (7, .int (nI j)), (9, va_rf (rl.getLast?.map ν)), (10, va_rf (rl.head?.map ν)), (11, va_rf (rh.getLast?.map ν)), (12, va_rf (rh.head?.map ν))])
    (next : ∀ μ', zDone G μ0 R o tn n j cap ky vl ft l false μ' → AW G 6 MJ4_resize post bc bs 347 (zRL m tb n tn j) [] μ')
    (hn : 2 ^ k = n) (hk : k < 8) (hj : j < n) (hR : 1 ≤ R) (htn : μ1 tn = some (hbT R o, aN G (2 * n) ft)) (hft0 : ft j = none) (hftn : ft (j + n) = none) (hP : zPn μ1 R o ν ky vl nx (· ∈ l)) (hrl : zRl nx rl) (hrh : zRl nx rh) (hnl : rl.Nodup) (hnh : rh.Nodup)
    (hlm : ∀ x, x ∈ rl ↔ x ∈ l ∧ x / n % 2 = 0) (hhm : ∀ x, x ∈ rh ↔ x ∈ l ∧ ¬ x / n % 2 = 0) (hkp : zKp (zKB R o tn l) μ0 μ1) (hlen : l.length ≤ cap) (hll : rl.length ≤ l.length) (hlh : rh.length ≤ l.length) : AW G 6 MJ4_resize post bc bs 309 L [] μ1 := by
  have hn256 : n ≤ 2 ^ 7 := hn ▸ Nat.pow_le_pow_right (by decide) (by omega)
  have htz : hbT R o ≠ zC := fun e => by have e1 : R + 1 = 0 := congrArg Prod.fst e; omega
  have hdj : j + n ≠ j := by omega
  have hdis : ∀ x, x ∈ rl → x ∉ rh := fun x h1 h2 => ((hhm x).mp h2).2 ((hlm x).mp h1).2
  have htnn : ∀ x (μ2 : zM) (nx2 : Nat → Option Nat), zPn μ2 R o ν ky vl nx2 (· ∈ l) → x ∈ l → ∀ f2, μ2 tn = some (hbT R o, aN G (2 * n) f2) → ν x ≠ tn := fun x μ2 nx2 h hx f2 h2 => zneq (h x hx).2 h2 (by simp)
  -- 327: the high list
  have hi_ : ∀ (μ2 : zM) (nx2 : Nat → Option Nat) (ft2 : Nat → Option Nat), zPn μ2 R o ν ky vl nx2 (· ∈ l) → μ2 tn = some (hbT R o, aN G (2 * n) ft2) → (∀ i, i ≠ j → i ≠ j + n → ft2 i = ft i) → ft2 (j + n) = none → ft2 j = rl.reverse.head?.map ν → zCh nx2 rl.reverse → zRl nx2 rh → zKp (zKB R o tn l) μ0 μ2 → AW G 6 MJ4_resize post bc bs 327 [(0, .ref m), (1, .ref tb), (2, .int (nI n)), (4, .int (nI (2 * n))), (6, .ref tn), (7, .int (nI j)), (11, va_rf (rh.getLast?.map ν)), (12, va_rf (rh.head?.map ν))] [] μ2 := by
    intro μ2 nx2 ft2 hP2 htn2 hf2 hfn2 hfj2 hc2 hr2 hk2
    have lowbin : ∀ (μ3 : zM) (nx3 : Nat → Option Nat), zPn μ3 R o ν ky vl nx3 (· ∈ l) → (∀ x, x ∈ rl → nx3 x = nx2 x) → zBin μ3 R o cap ky vl false (rl.reverse.head?.map ν) rl.reverse := by
      intro μ3 nx3 h3 e3
      refine ⟨ν, nx3, rfl, hc2.congr (fun x hx => e3 x (List.mem_reverse.mp hx)), zNodRev hnl, fun _ => ⟨fun x hx => h3 x ((hlm x).mp (List.mem_reverse.mp hx)).1, by (rw [List.length_reverse]; omega)⟩, fun q => by cases q⟩
    have hlm2 : ∀ x, x ∈ rl.reverse ↔ x ∈ l ∧ x / n % 2 = 0 := fun x => List.mem_reverse.trans (hlm x)
    have hhm2 : ∀ x, x ∈ rh.reverse ↔ x ∈ l ∧ ¬ x / n % 2 = 0 := fun x => List.mem_reverse.trans (hhm x)
    rcases rh with _ | ⟨y, rh⟩
    · simp only [List.head?_nil, Option.map_none, zrf_n]
      first | refine aw_aload (q := 329) dJ4_resize_327 rfl rfl ?_ | refine aw_aloadN (q := 329) dJ4_resize_327 rfl rfl ?_ | refine aw_aloadQ (q := 329) dJ4_resize_327 rfl rfl ?_
      refine aw_ifnull_n (tgt := 347) dJ4_resize_329 (by decide) ?_
      have hd : zDone G μ0 R o tn n j cap ky vl ft l false μ2 := ⟨ft2, rl.reverse, [], false, false, htn2, hf2, hfj2 ▸ lowbin μ2 nx2 hP2 (fun _ _ => rfl), hfn2 ▸ zBin.nil, hlm2, hhm2, fun _ => ⟨rfl, rfl⟩, hk2⟩
      exact aw_locals (by exact ⟨rfl, rfl, rfl, rfl, rfl, rfl, trivial⟩) (next μ2 hd)
    · have hyl : y ∈ l := ((hhm y).mp List.mem_cons_self).1
      have hy2 := (hP2 y hyl).2
      simp only [List.head?_cons, Option.map_some, zrf_s]
      obtain ⟨w, hw⟩ : ∃ w, (y :: rh).getLast? = some w := by
        cases hq : (y :: rh).getLast? with
        | none => simp at hq
        | some w => exact ⟨w, rfl⟩
      have hwl : w ∈ l := ((hhm w).mp (List.mem_of_getLast? hw)).1
      rw [hw]
      simp only [Option.map_some, zrf_s]
      first | refine aw_aload (q := 329) dJ4_resize_327 rfl rfl ?_ | refine aw_aloadN (q := 329) dJ4_resize_327 rfl rfl ?_ | refine aw_aloadQ (q := 329) dJ4_resize_327 rfl rfl ?_
      refine aw_ifnull_r (q := 332) dJ4_resize_329 rfl ?_
      first | refine aw_aload (q := 334) dJ4_resize_332 rfl rfl ?_ | refine aw_aloadN (q := 334) dJ4_resize_332 rfl rfl ?_ | refine aw_aloadQ (q := 334) dJ4_resize_332 rfl rfl ?_
      refine aw_null (q := 335) dJ4_resize_334 rfl ?_
      first | refine aw_putfield (q := 338) dJ4_resize_335 gf_J4_177_13 hy2 (by first | assumption | simp) (by first | rfl | exact znar_rf _ _ | exact zB_nar _) (by first | rfl | exact zfit_rf _ _ | exact zB_fit _) (Nat.le_of_ble_eq_true rfl) rfl (fun μ3 hg_μ3 => ?_) | refine aw_putfield (q := 338) dJ4_resize_335 gf_J4_177_15 hy2 (by first | assumption | simp) (by first | rfl | exact znar_rf _ _ | exact zB_nar _) (by first | rfl | exact zfit_rf _ _ | exact zB_fit _) (Nat.le_of_ble_eq_true rfl) rfl (fun μ3 hg_μ3 => ?_)
      have hy2 : μ3 _ = some _ := hg_μ3 ▸ updM_eq _ _ _
      simp only [List.set] at hy2 hg_μ3
      have hP3 := hP2.p_nx hyl none hg_μ3
      have htn3 : μ3 tn = some _ := hg_μ3 ▸ (updM_ne (Ne.symm (htnn y μ2 _ hP2 hyl _ htn2))).trans htn2
      have hk3 : zKp (zKB R o tn l) μ2 μ3 := hg_μ3 ▸ zKp.put (hP2 y hyl).2 (Or.inr ⟨y, hyl, rfl⟩)
      have hcut := hr2.cut hnh
      have hw3 := (hP3 w hwl).2
      first | refine aw_aload (q := 340) dJ4_resize_338 rfl rfl ?_ | refine aw_aloadN (q := 340) dJ4_resize_338 rfl rfl ?_ | refine aw_aloadQ (q := 340) dJ4_resize_338 rfl rfl ?_
      refine aw_iload (q := 342) dJ4_resize_340 rfl rfl ?_
      refine aw_iload_n (i := 2) (q := 343) dJ4_resize_342 rfl rfl rfl ?_
      refine aw_iadd (q := 344) dJ4_resize_343 rfl ?_
      first | refine aw_aload (q := 346) dJ4_resize_344 rfl rfl ?_ | refine aw_aloadN (q := 346) dJ4_resize_344 rfl rfl ?_ | refine aw_aloadQ (q := 346) dJ4_resize_344 rfl rfl ?_
      rw [nI_add]
      refine aw_aastX (j := 5) (E := "java/util/HashMap$Node") (j + n) (q := 347) dJ4_resize_346 rfl htn3 htz hw3 ca_13_J18 rfl (by omega) (by omega) rfl (fun μ4 hg_μ4 => ?_)
      have htn4 : μ4 tn = some _ := hg_μ4 ▸ updM_eq _ _ _
      have hk4 : zKp (zKB R o tn l) μ3 μ4 := hg_μ4 ▸ zKp.put htn3 (Or.inl rfl)
      have hP4 : zPn μ4 R o ν ky vl (va_up nx2 y none) (· ∈ l) := fun x hx => ⟨(hP3 x hx).1, hg_μ4 ▸ (updM_ne (htnn x μ3 _ hP3 hx _ htn3)).trans (hP3 x hx).2⟩
      have hhd : (y :: rh).reverse.head?.map ν = some (ν w) := by rw [List.head?_reverse, hw]; rfl
      have hd : zDone G μ0 R o tn n j cap ky vl ft l false μ4 := by
        refine ⟨_, rl.reverse, (y :: rh).reverse, false, false, htn4, fun i h1 h2 => (va_up_ne _ _ h2).trans (hf2 i h1 h2), ?_, ?_, hlm2, hhm2, fun _ => ⟨rfl, rfl⟩, (hk2.tr hk3).tr hk4⟩
        · rw [va_up_ne _ _ (Ne.symm hdj), hfj2]
          exact lowbin μ4 _ hP4 (fun x hx => va_up_ne _ _ (fun e => hdis x hx (e ▸ List.mem_cons_self)))
        · rw [va_up_self, ← hhd]
          exact ⟨ν, _, rfl, hcut, zNodRev hnh, fun _ => ⟨fun x hx => hP4 x ((hhm x).mp (List.mem_reverse.mp hx)).1, by (rw [List.length_reverse]; omega)⟩, fun q => by cases q⟩
      exact aw_locals (by exact ⟨rfl, rfl, rfl, rfl, rfl, rfl, trivial⟩) (next μ4 hd)
  refine aw_locals hL ?_
  rcases rl with _ | ⟨y, rl⟩
  · simp only [List.head?_nil, Option.map_none, zrf_n]
    first | refine aw_aload (q := 311) dJ4_resize_309 rfl rfl ?_ | refine aw_aloadN (q := 311) dJ4_resize_309 rfl rfl ?_ | refine aw_aloadQ (q := 311) dJ4_resize_309 rfl rfl ?_
    refine aw_ifnull_n (tgt := 327) dJ4_resize_311 (by decide) ?_
    exact aw_locals (by exact ⟨rfl, rfl, rfl, rfl, rfl, rfl, rfl, rfl, trivial⟩) (hi_ μ1 nx ft hP htn (fun _ _ _ => rfl) hftn hft0 trivial hrh hkp)
  · have hyl : y ∈ l := ((hlm y).mp List.mem_cons_self).1
    have hy2 := (hP y hyl).2
    simp only [List.head?_cons, Option.map_some, zrf_s]
    obtain ⟨w, hw⟩ : ∃ w, (y :: rl).getLast? = some w := by
      cases hq : (y :: rl).getLast? with
      | none => simp at hq
      | some w => exact ⟨w, rfl⟩
    have hwl : w ∈ l := ((hlm w).mp (List.mem_of_getLast? hw)).1
    have hhd : (y :: rl).reverse.head?.map ν = some (ν w) := by rw [List.head?_reverse, hw]; rfl
    rw [hw]
    simp only [Option.map_some, zrf_s]
    first | refine aw_aload (q := 311) dJ4_resize_309 rfl rfl ?_ | refine aw_aloadN (q := 311) dJ4_resize_309 rfl rfl ?_ | refine aw_aloadQ (q := 311) dJ4_resize_309 rfl rfl ?_
    refine aw_ifnull_r (q := 314) dJ4_resize_311 rfl ?_
    first | refine aw_aload (q := 316) dJ4_resize_314 rfl rfl ?_ | refine aw_aloadN (q := 316) dJ4_resize_314 rfl rfl ?_ | refine aw_aloadQ (q := 316) dJ4_resize_314 rfl rfl ?_
    refine aw_null (q := 317) dJ4_resize_316 rfl ?_
    first | refine aw_putfield (q := 320) dJ4_resize_317 gf_J4_177_13 hy2 (by first | assumption | simp) (by first | rfl | exact znar_rf _ _ | exact zB_nar _) (by first | rfl | exact zfit_rf _ _ | exact zB_fit _) (Nat.le_of_ble_eq_true rfl) rfl (fun μ3 hg_μ3 => ?_) | refine aw_putfield (q := 320) dJ4_resize_317 gf_J4_177_15 hy2 (by first | assumption | simp) (by first | rfl | exact znar_rf _ _ | exact zB_nar _) (by first | rfl | exact zfit_rf _ _ | exact zB_fit _) (Nat.le_of_ble_eq_true rfl) rfl (fun μ3 hg_μ3 => ?_)
    have hy2 : μ3 _ = some _ := hg_μ3 ▸ updM_eq _ _ _
    simp only [List.set] at hy2 hg_μ3
    have hP3 := hP.p_nx hyl none hg_μ3
    have htn3 : μ3 tn = some _ := hg_μ3 ▸ (updM_ne (Ne.symm (htnn y μ1 _ hP hyl _ htn))).trans htn
    have hk3 : zKp (zKB R o tn l) μ1 μ3 := hg_μ3 ▸ zKp.put (hP y hyl).2 (Or.inr ⟨y, hyl, rfl⟩)
    have hcut := hrl.cut hnl
    have hw3 := (hP3 w hwl).2
    first | refine aw_aload (q := 322) dJ4_resize_320 rfl rfl ?_ | refine aw_aloadN (q := 322) dJ4_resize_320 rfl rfl ?_ | refine aw_aloadQ (q := 322) dJ4_resize_320 rfl rfl ?_
    refine aw_iload (q := 324) dJ4_resize_322 rfl rfl ?_
    first | refine aw_aload (q := 326) dJ4_resize_324 rfl rfl ?_ | refine aw_aloadN (q := 326) dJ4_resize_324 rfl rfl ?_ | refine aw_aloadQ (q := 326) dJ4_resize_324 rfl rfl ?_
    refine aw_aastX (j := 5) (E := "java/util/HashMap$Node") j (q := 327) dJ4_resize_326 rfl htn3 htz hw3 ca_13_J18 rfl (by omega) (by omega) rfl (fun μ4 hg_μ4 => ?_)
    have htn4 : μ4 tn = some _ := hg_μ4 ▸ updM_eq _ _ _
    have hk4 : zKp (zKB R o tn l) μ3 μ4 := hg_μ4 ▸ zKp.put htn3 (Or.inl rfl)
    have hP4 : zPn μ4 R o ν ky vl (va_up nx y none) (· ∈ l) := fun x hx => ⟨(hP3 x hx).1, hg_μ4 ▸ (updM_ne (htnn x μ3 _ hP3 hx _ htn3)).trans (hP3 x hx).2⟩
    have hrh4 : zRl (va_up nx y none) rh := by
      cases rh with
      | nil => trivial
      | cons z rh => exact hrh.congr (fun x hx => va_up_ne _ _ (fun e => hdis y List.mem_cons_self (e ▸ List.mem_cons_of_mem _ hx)))
    exact aw_locals (by exact ⟨rfl, rfl, rfl, rfl, rfl, rfl, rfl, rfl, trivial⟩) (hi_ μ4 _ _ hP4 htn4 (fun i h1 _ => va_up_ne _ _ h1) ((va_up_ne _ _ hdj).trans hftn) ((va_up_self _ _ _).trans hhd.symm) hcut hrh4 ((hkp.tr hk3).tr hk4))
set_option maxHeartbeats 4000000 in
/-- 235: a plain bin's list is cut in two -/
theorem rsz_plain {m tb tn n k j cap bc bs : Nat} {ft : Nat → Option Nat} {l : List Nat} {μ0 : zM}
    (next : ∀ μ', zDone G μ0 R o tn n j cap ky vl ft l false μ' → AW G 6 MJ4_resize post bc bs 347 (zRL m tb n tn j) [] μ')
    (hn : 2 ^ k = n) (hk : k < 8) (hj : j < n) (hR : 1 ≤ R) (hft0 : ft j = none) (hftn : ft (j + n) = none) (hlen : l.length ≤ cap) (hnd : l.Nodup) :
    ∀ (rest : List Nat) (z : Nat) (μ1 : zM) (nx : Nat → Option Nat) (rl rh : List Nat), μ1 tn = some (hbT R o, aN G (2 * n) ft) → zPn μ1 R o ν ky vl nx (· ∈ l) → zCh nx (z :: rest) → (z :: rest).Nodup → zRl nx rl → zRl nx rh → rl.Nodup → rh.Nodup → (∀ x, x ∈ rl → x / n % 2 = 0 ∧ x ∉ z :: rest) → (∀ x, x ∈ rh → ¬ x / n % 2 = 0 ∧ x ∉ z :: rest) → (∀ x, x ∈ l ↔ x ∈ rl ∨ x ∈ rh ∨ x ∈ z :: rest) → rl.length + rh.length + (rest.length + 1) ≤ l.length → zKp (zKB R o tn l) μ0 μ1 →
      AW G 6 MJ4_resize post bc bs 235 [(0, .ref m), (1, .ref tb), (2, .int (nI n)), (4, .int (nI (2 * n))), (6, .ref tn), (7, .int (nI j)), (8, .ref (ν z)), (9, va_rf (rl.getLast?.map ν)), (10, va_rf (rl.head?.map ν)), (11, va_rf (rh.getLast?.map ν)), (12, va_rf (rh.head?.map ν))] [] μ1 := by
  intro rest
  induction rest with
  | nil =>
    intro z μ1 nx rl rh htn hP hc hzr hrl hrh hnl hnh hrlm hrhm hmem hlen2 hkp
    have hzl : z ∈ l := (hmem z).mpr (Or.inr (Or.inr List.mem_cons_self))
    obtain ⟨hz8, hz1⟩ := hP z hzl
    rw [hc.1] at hz1
    simp only [List.head?_nil, Option.map_none, zrf_n] at hz1
    have htnn : ∀ x, x ∈ l → ν x ≠ tn := fun x hx => zneq (hP x hx).2 htn (by simp)
    by_cases hb : z / n % 2 = 0
    · have fin : ∀ (μ2 : zM) (nx2 : Nat → Option Nat), zPn μ2 R o ν ky vl nx2 (· ∈ l) → μ2 tn = some (hbT R o, aN G (2 * n) ft) → zRl nx2 (z :: rl) → zRl nx2 rh → zKp (zKB R o tn l) μ0 μ2 → AW G 6 MJ4_resize post bc bs 309 [(0, .ref m), (1, .ref tb), (2, .int (nI n)), (4, .int (nI (2 * n))), (6, .ref tn), (7, .int (nI j)), (9, va_rf ((z :: rl).getLast?.map ν)), (10, .ref (ν z)), (11, va_rf (rh.getLast?.map ν)), (12, va_rf (rh.head?.map ν))] [] μ2 := by
        intro μ2 nx2 hP2 htn2 hr2 hh2 hk2
        refine rsz_end (rl := z :: rl) (rh := rh) ⟨rfl, rfl, rfl, rfl, rfl, rfl, rfl, rfl, rfl, rfl, trivial⟩ next hn hk hj hR htn2 hft0 hftn hP2 hr2 hh2 (List.nodup_cons.mpr ⟨fun q => (hrlm z q).2 List.mem_cons_self, hnl⟩) hnh ?_ ?_ hk2 hlen ?_ ?_
        · intro x
          rw [hmem x, List.mem_cons, List.mem_singleton]
          constructor
          · rintro (q | q)
            · exact ⟨Or.inr (Or.inr q), q ▸ hb⟩
            · exact ⟨Or.inl q, (hrlm x q).1⟩
          · rintro ⟨q | q | q, h⟩
            · exact Or.inr q
            · exact absurd h (hrhm x q).1
            · exact Or.inl q
        · intro x
          rw [hmem x, List.mem_singleton]
          constructor
          · intro q
            exact ⟨Or.inr (Or.inl q), (hrhm x q).1⟩
          · rintro ⟨q | q | q, h⟩
            · exact absurd (hrlm x q).1 h
            · exact q
            · exact absurd (q ▸ hb) h
        · simp only [List.length_cons, List.length_nil] at hlen2 ⊢; omega
        · simp only [List.length_nil] at hlen2; omega
      first | refine aw_aload (q := 237) dJ4_resize_235 rfl rfl ?_ | refine aw_aloadN (q := 237) dJ4_resize_235 rfl rfl ?_ | refine aw_aloadQ (q := 237) dJ4_resize_235 rfl rfl ?_
      first | refine aw_getfield (q := 240) dJ4_resize_237 gf_J4_177_13 (by assumption) rfl rfl ?_ | refine aw_getfield (q := 240) dJ4_resize_237 gf_J4_177_15 (by assumption) rfl rfl ?_ | refine aw_nd (i := 3) (q := 240) dJ4_resize_237 gf_J4_177_13 gf_J4_177_15 (by assumption) rfl rfl ?_
      first | refine aw_astore (q := 242) dJ4_resize_240 (by decide) rfl ?_ | refine aw_astoreN (q := 242) dJ4_resize_240 (by decide) rfl ?_ | refine aw_astoreQ (q := 242) dJ4_resize_240 (by decide) rfl ?_
      try simp (config := {decide := true}) only [zput, zdel_q, zdel_f, zdel_t, zdel_nil, zdel_r, zdel_i, zdel_n]
      first | refine aw_aload (q := 244) dJ4_resize_242 rfl rfl ?_ | refine aw_aloadN (q := 244) dJ4_resize_242 rfl rfl ?_ | refine aw_aloadQ (q := 244) dJ4_resize_242 rfl rfl ?_
      first | refine aw_getfield (q := 247) dJ4_resize_244 gf_J4_168_13 (by assumption) rfl rfl ?_ | refine aw_getfield (q := 247) dJ4_resize_244 gf_J4_168_15 (by assumption) rfl rfl ?_ | refine aw_nd (i := 0) (q := 247) dJ4_resize_244 gf_J4_168_13 gf_J4_168_15 (by assumption) rfl rfl ?_
      refine aw_iload_n (i := 2) (q := 248) dJ4_resize_247 rfl rfl rfl ?_
      refine aw_iand (q := 249) dJ4_resize_248 rfl ?_
      refine aw_if_ne (tgt := 278) (q := 252) dJ4_resize_249 (by decide) rfl (fun hZ => absurd (((i_bit hn (by omega) (by omega)).mpr hb)) hZ) (fun _ => ?_)
      first | refine aw_aload (q := 254) dJ4_resize_252 rfl rfl ?_ | refine aw_aloadN (q := 254) dJ4_resize_252 rfl rfl ?_ | refine aw_aloadQ (q := 254) dJ4_resize_252 rfl rfl ?_
      rcases rl with _ | ⟨y, rl⟩
      · simp only [List.head?_nil, Option.map_none, zrf_n]
        refine aw_ifnonnull_n (q := 257) dJ4_resize_254 rfl ?_
        first | refine aw_aload (q := 259) dJ4_resize_257 rfl rfl ?_ | refine aw_aloadN (q := 259) dJ4_resize_257 rfl rfl ?_ | refine aw_aloadQ (q := 259) dJ4_resize_257 rfl rfl ?_
        first | refine aw_astore (q := 261) dJ4_resize_259 (by decide) rfl ?_ | refine aw_astoreN (q := 261) dJ4_resize_259 (by decide) rfl ?_ | refine aw_astoreQ (q := 261) dJ4_resize_259 (by decide) rfl ?_
        try simp (config := {decide := true}) only [zput, zdel_q, zdel_f, zdel_t, zdel_nil, zdel_r, zdel_i, zdel_n]
        refine aw_goto (tgt := 271) dJ4_resize_261 (by decide) ?_
        first | refine aw_aload (q := 273) dJ4_resize_271 rfl rfl ?_ | refine aw_aloadN (q := 273) dJ4_resize_271 rfl rfl ?_ | refine aw_aloadQ (q := 273) dJ4_resize_271 rfl rfl ?_
        first | refine aw_astore (q := 275) dJ4_resize_273 (by decide) rfl ?_ | refine aw_astoreN (q := 275) dJ4_resize_273 (by decide) rfl ?_ | refine aw_astoreQ (q := 275) dJ4_resize_273 (by decide) rfl ?_
        try simp (config := {decide := true}) only [zput, zdel_q, zdel_f, zdel_t, zdel_nil, zdel_r, zdel_i, zdel_n]
        refine aw_goto (tgt := 301) dJ4_resize_275 (by decide) ?_
        first | refine aw_aload (q := 303) dJ4_resize_301 rfl rfl ?_ | refine aw_aloadN (q := 303) dJ4_resize_301 rfl rfl ?_ | refine aw_aloadQ (q := 303) dJ4_resize_301 rfl rfl ?_
        refine aw_dup (q := 304) dJ4_resize_303 (by first | rfl | exact zcat_rf _) rfl ?_
        first | refine aw_astore (q := 306) dJ4_resize_304 (by decide) rfl ?_ | refine aw_astoreN (q := 306) dJ4_resize_304 (by decide) rfl ?_ | refine aw_astoreQ (q := 306) dJ4_resize_304 (by decide) rfl ?_
        refine aw_ifnonnull_n (q := 309) dJ4_resize_306 rfl ?_
        exact AW.bud (aw_locals (by exact ⟨rfl, rfl, rfl, rfl, rfl, rfl, rfl, rfl, rfl, rfl, trivial⟩) (fin μ1 nx hP htn ⟨fun y hy => (by cases hy), trivial⟩ hrh hkp)) (by omega) (by omega)
      · have hyl : y ∈ l := (hmem y).mpr (Or.inl List.mem_cons_self)
        have hyz : y ≠ z := fun e => (hrlm y List.mem_cons_self).2 (e ▸ List.mem_cons_self)
        have hy1 := (hP y hyl).2
        have elast : (z :: y :: rl).getLast? = (y :: rl).getLast? := List.getLast?_cons_cons
        simp only [List.head?_cons, Option.map_some, zrf_s]
        refine aw_ifnonnull_r (tgt := 264) dJ4_resize_254 (by decide) ?_
        first | refine aw_aload (q := 266) dJ4_resize_264 rfl rfl ?_ | refine aw_aloadN (q := 266) dJ4_resize_264 rfl rfl ?_ | refine aw_aloadQ (q := 266) dJ4_resize_264 rfl rfl ?_
        first | refine aw_aload (q := 268) dJ4_resize_266 rfl rfl ?_ | refine aw_aloadN (q := 268) dJ4_resize_266 rfl rfl ?_ | refine aw_aloadQ (q := 268) dJ4_resize_266 rfl rfl ?_
        first | refine aw_putfield (q := 271) dJ4_resize_268 gf_J4_177_13 hy1 (by first | assumption | simp) (by first | rfl | exact znar_rf _ _ | exact zB_nar _) (by first | rfl | exact zfit_rf _ _ | exact zB_fit _) (Nat.le_of_ble_eq_true rfl) rfl (fun μ2 hg_μ2 => ?_) | refine aw_putfield (q := 271) dJ4_resize_268 gf_J4_177_15 hy1 (by first | assumption | simp) (by first | rfl | exact znar_rf _ _ | exact zB_nar _) (by first | rfl | exact zfit_rf _ _ | exact zB_fit _) (Nat.le_of_ble_eq_true rfl) rfl (fun μ2 hg_μ2 => ?_)
        have hy1 : μ2 _ = some _ := hg_μ2 ▸ updM_eq _ _ _
        simp only [List.set] at hy1 hg_μ2
        have hP2 := hP.p_nx hyl (some z) hg_μ2
        have htn2 : μ2 tn = some _ := hg_μ2 ▸ (updM_ne (Ne.symm (htnn y hyl))).trans htn
        have hk2 : zKp (zKB R o tn l) μ1 μ2 := hg_μ2 ▸ zKp.put (hP y hyl).2 (Or.inr ⟨y, hyl, rfl⟩)
        have hpush := hrl.push (e := z) hnl
        have hrh2 : zRl (va_up nx y (some z)) rh := by
          cases rh with
          | nil => trivial
          | cons v rh => exact hrh.congr (fun x hx => va_up_ne _ _ (fun e => (hrhm x (List.mem_cons_of_mem _ hx)).1 (e ▸ (hrlm y List.mem_cons_self).1)))
        first | refine aw_aload (q := 273) dJ4_resize_271 rfl rfl ?_ | refine aw_aloadN (q := 273) dJ4_resize_271 rfl rfl ?_ | refine aw_aloadQ (q := 273) dJ4_resize_271 rfl rfl ?_
        first | refine aw_astore (q := 275) dJ4_resize_273 (by decide) rfl ?_ | refine aw_astoreN (q := 275) dJ4_resize_273 (by decide) rfl ?_ | refine aw_astoreQ (q := 275) dJ4_resize_273 (by decide) rfl ?_
        try simp (config := {decide := true}) only [zput, zdel_q, zdel_f, zdel_t, zdel_nil, zdel_r, zdel_i, zdel_n]
        refine aw_goto (tgt := 301) dJ4_resize_275 (by decide) ?_
        first | refine aw_aload (q := 303) dJ4_resize_301 rfl rfl ?_ | refine aw_aloadN (q := 303) dJ4_resize_301 rfl rfl ?_ | refine aw_aloadQ (q := 303) dJ4_resize_301 rfl rfl ?_
        refine aw_dup (q := 304) dJ4_resize_303 (by first | rfl | exact zcat_rf _) rfl ?_
        first | refine aw_astore (q := 306) dJ4_resize_304 (by decide) rfl ?_ | refine aw_astoreN (q := 306) dJ4_resize_304 (by decide) rfl ?_ | refine aw_astoreQ (q := 306) dJ4_resize_304 (by decide) rfl ?_
        refine aw_ifnonnull_n (q := 309) dJ4_resize_306 rfl ?_
        exact AW.bud (aw_locals (by exact ⟨rfl, rfl, rfl, rfl, rfl, rfl, by (rw [elast]; rfl), rfl, rfl, rfl, trivial⟩) (fin μ2 _ hP2 htn2 hpush hrh2 (hkp.tr hk2))) (by omega) (by omega)
    · have fin : ∀ (μ2 : zM) (nx2 : Nat → Option Nat), zPn μ2 R o ν ky vl nx2 (· ∈ l) → μ2 tn = some (hbT R o, aN G (2 * n) ft) → zRl nx2 rl → zRl nx2 (z :: rh) → zKp (zKB R o tn l) μ0 μ2 → AW G 6 MJ4_resize post bc bs 309 [(0, .ref m), (1, .ref tb), (2, .int (nI n)), (4, .int (nI (2 * n))), (6, .ref tn), (7, .int (nI j)), (9, va_rf (rl.getLast?.map ν)), (10, va_rf (rl.head?.map ν)), (11, va_rf ((z :: rh).getLast?.map ν)), (12, .ref (ν z))] [] μ2 := by
        intro μ2 nx2 hP2 htn2 hr2 hh2 hk2
        refine rsz_end (rl := rl) (rh := z :: rh) ⟨rfl, rfl, rfl, rfl, rfl, rfl, rfl, rfl, rfl, rfl, trivial⟩ next hn hk hj hR htn2 hft0 hftn hP2 hr2 hh2 hnl (List.nodup_cons.mpr ⟨fun q => (hrhm z q).2 List.mem_cons_self, hnh⟩) ?_ ?_ hk2 hlen ?_ ?_
        · intro x
          rw [hmem x, List.mem_singleton]
          constructor
          · intro q
            exact ⟨Or.inl q, (hrlm x q).1⟩
          · rintro ⟨q | q | q, h⟩
            · exact q
            · exact absurd h (hrhm x q).1
            · exact absurd (q ▸ h) hb
        · intro x
          rw [hmem x, List.mem_cons, List.mem_singleton]
          constructor
          · rintro (q | q)
            · exact ⟨Or.inr (Or.inr q), q ▸ hb⟩
            · exact ⟨Or.inr (Or.inl q), (hrhm x q).1⟩
          · rintro ⟨q | q | q, h⟩
            · exact absurd (hrlm x q).1 h
            · exact Or.inr q
            · exact Or.inl q
        · simp only [List.length_nil] at hlen2; omega
        · simp only [List.length_cons, List.length_nil] at hlen2 ⊢; omega
      first | refine aw_aload (q := 237) dJ4_resize_235 rfl rfl ?_ | refine aw_aloadN (q := 237) dJ4_resize_235 rfl rfl ?_ | refine aw_aloadQ (q := 237) dJ4_resize_235 rfl rfl ?_
      first | refine aw_getfield (q := 240) dJ4_resize_237 gf_J4_177_13 (by assumption) rfl rfl ?_ | refine aw_getfield (q := 240) dJ4_resize_237 gf_J4_177_15 (by assumption) rfl rfl ?_ | refine aw_nd (i := 3) (q := 240) dJ4_resize_237 gf_J4_177_13 gf_J4_177_15 (by assumption) rfl rfl ?_
      first | refine aw_astore (q := 242) dJ4_resize_240 (by decide) rfl ?_ | refine aw_astoreN (q := 242) dJ4_resize_240 (by decide) rfl ?_ | refine aw_astoreQ (q := 242) dJ4_resize_240 (by decide) rfl ?_
      try simp (config := {decide := true}) only [zput, zdel_q, zdel_f, zdel_t, zdel_nil, zdel_r, zdel_i, zdel_n]
      first | refine aw_aload (q := 244) dJ4_resize_242 rfl rfl ?_ | refine aw_aloadN (q := 244) dJ4_resize_242 rfl rfl ?_ | refine aw_aloadQ (q := 244) dJ4_resize_242 rfl rfl ?_
      first | refine aw_getfield (q := 247) dJ4_resize_244 gf_J4_168_13 (by assumption) rfl rfl ?_ | refine aw_getfield (q := 247) dJ4_resize_244 gf_J4_168_15 (by assumption) rfl rfl ?_ | refine aw_nd (i := 0) (q := 247) dJ4_resize_244 gf_J4_168_13 gf_J4_168_15 (by assumption) rfl rfl ?_
      refine aw_iload_n (i := 2) (q := 248) dJ4_resize_247 rfl rfl rfl ?_
      refine aw_iand (q := 249) dJ4_resize_248 rfl ?_
      refine aw_if_ne (tgt := 278) (q := 252) dJ4_resize_249 (by decide) rfl (fun _ => ?_) (fun hZ => absurd hZ ((fun q => hb ((i_bit hn (by omega) (by omega)).mp q))))
      first | refine aw_aload (q := 280) dJ4_resize_278 rfl rfl ?_ | refine aw_aloadN (q := 280) dJ4_resize_278 rfl rfl ?_ | refine aw_aloadQ (q := 280) dJ4_resize_278 rfl rfl ?_
      rcases rh with _ | ⟨y, rh⟩
      · simp only [List.head?_nil, Option.map_none, zrf_n]
        refine aw_ifnonnull_n (q := 283) dJ4_resize_280 rfl ?_
        first | refine aw_aload (q := 285) dJ4_resize_283 rfl rfl ?_ | refine aw_aloadN (q := 285) dJ4_resize_283 rfl rfl ?_ | refine aw_aloadQ (q := 285) dJ4_resize_283 rfl rfl ?_
        first | refine aw_astore (q := 287) dJ4_resize_285 (by decide) rfl ?_ | refine aw_astoreN (q := 287) dJ4_resize_285 (by decide) rfl ?_ | refine aw_astoreQ (q := 287) dJ4_resize_285 (by decide) rfl ?_
        try simp (config := {decide := true}) only [zput, zdel_q, zdel_f, zdel_t, zdel_nil, zdel_r, zdel_i, zdel_n]
        refine aw_goto (tgt := 297) dJ4_resize_287 (by decide) ?_
        first | refine aw_aload (q := 299) dJ4_resize_297 rfl rfl ?_ | refine aw_aloadN (q := 299) dJ4_resize_297 rfl rfl ?_ | refine aw_aloadQ (q := 299) dJ4_resize_297 rfl rfl ?_
        first | refine aw_astore (q := 301) dJ4_resize_299 (by decide) rfl ?_ | refine aw_astoreN (q := 301) dJ4_resize_299 (by decide) rfl ?_ | refine aw_astoreQ (q := 301) dJ4_resize_299 (by decide) rfl ?_
        try simp (config := {decide := true}) only [zput, zdel_q, zdel_f, zdel_t, zdel_nil, zdel_r, zdel_i, zdel_n]
        first | refine aw_aload (q := 303) dJ4_resize_301 rfl rfl ?_ | refine aw_aloadN (q := 303) dJ4_resize_301 rfl rfl ?_ | refine aw_aloadQ (q := 303) dJ4_resize_301 rfl rfl ?_
        refine aw_dup (q := 304) dJ4_resize_303 (by first | rfl | exact zcat_rf _) rfl ?_
        first | refine aw_astore (q := 306) dJ4_resize_304 (by decide) rfl ?_ | refine aw_astoreN (q := 306) dJ4_resize_304 (by decide) rfl ?_ | refine aw_astoreQ (q := 306) dJ4_resize_304 (by decide) rfl ?_
        refine aw_ifnonnull_n (q := 309) dJ4_resize_306 rfl ?_
        exact AW.bud (aw_locals (by exact ⟨rfl, rfl, rfl, rfl, rfl, rfl, rfl, rfl, rfl, rfl, trivial⟩) (fin μ1 nx hP htn hrl ⟨fun y hy => (by cases hy), trivial⟩ hkp)) (by omega) (by omega)
      · have hyl : y ∈ l := (hmem y).mpr (Or.inr (Or.inl List.mem_cons_self))
        have hyz : y ≠ z := fun e => (hrhm y List.mem_cons_self).2 (e ▸ List.mem_cons_self)
        have hy1 := (hP y hyl).2
        have elast : (z :: y :: rh).getLast? = (y :: rh).getLast? := List.getLast?_cons_cons
        simp only [List.head?_cons, Option.map_some, zrf_s]
        refine aw_ifnonnull_r (tgt := 290) dJ4_resize_280 (by decide) ?_
        first | refine aw_aload (q := 292) dJ4_resize_290 rfl rfl ?_ | refine aw_aloadN (q := 292) dJ4_resize_290 rfl rfl ?_ | refine aw_aloadQ (q := 292) dJ4_resize_290 rfl rfl ?_
        first | refine aw_aload (q := 294) dJ4_resize_292 rfl rfl ?_ | refine aw_aloadN (q := 294) dJ4_resize_292 rfl rfl ?_ | refine aw_aloadQ (q := 294) dJ4_resize_292 rfl rfl ?_
        first | refine aw_putfield (q := 297) dJ4_resize_294 gf_J4_177_13 hy1 (by first | assumption | simp) (by first | rfl | exact znar_rf _ _ | exact zB_nar _) (by first | rfl | exact zfit_rf _ _ | exact zB_fit _) (Nat.le_of_ble_eq_true rfl) rfl (fun μ2 hg_μ2 => ?_) | refine aw_putfield (q := 297) dJ4_resize_294 gf_J4_177_15 hy1 (by first | assumption | simp) (by first | rfl | exact znar_rf _ _ | exact zB_nar _) (by first | rfl | exact zfit_rf _ _ | exact zB_fit _) (Nat.le_of_ble_eq_true rfl) rfl (fun μ2 hg_μ2 => ?_)
        have hy1 : μ2 _ = some _ := hg_μ2 ▸ updM_eq _ _ _
        simp only [List.set] at hy1 hg_μ2
        have hP2 := hP.p_nx hyl (some z) hg_μ2
        have htn2 : μ2 tn = some _ := hg_μ2 ▸ (updM_ne (Ne.symm (htnn y hyl))).trans htn
        have hk2 : zKp (zKB R o tn l) μ1 μ2 := hg_μ2 ▸ zKp.put (hP y hyl).2 (Or.inr ⟨y, hyl, rfl⟩)
        have hpush := hrh.push (e := z) hnh
        have hrl2 : zRl (va_up nx y (some z)) rl := by
          cases rl with
          | nil => trivial
          | cons v rl => exact hrl.congr (fun x hx => va_up_ne _ _ (fun e => (hrhm y List.mem_cons_self).1 (e ▸ (hrlm x (List.mem_cons_of_mem _ hx)).1)))
        first | refine aw_aload (q := 299) dJ4_resize_297 rfl rfl ?_ | refine aw_aloadN (q := 299) dJ4_resize_297 rfl rfl ?_ | refine aw_aloadQ (q := 299) dJ4_resize_297 rfl rfl ?_
        first | refine aw_astore (q := 301) dJ4_resize_299 (by decide) rfl ?_ | refine aw_astoreN (q := 301) dJ4_resize_299 (by decide) rfl ?_ | refine aw_astoreQ (q := 301) dJ4_resize_299 (by decide) rfl ?_
        try simp (config := {decide := true}) only [zput, zdel_q, zdel_f, zdel_t, zdel_nil, zdel_r, zdel_i, zdel_n]
        first | refine aw_aload (q := 303) dJ4_resize_301 rfl rfl ?_ | refine aw_aloadN (q := 303) dJ4_resize_301 rfl rfl ?_ | refine aw_aloadQ (q := 303) dJ4_resize_301 rfl rfl ?_
        refine aw_dup (q := 304) dJ4_resize_303 (by first | rfl | exact zcat_rf _) rfl ?_
        first | refine aw_astore (q := 306) dJ4_resize_304 (by decide) rfl ?_ | refine aw_astoreN (q := 306) dJ4_resize_304 (by decide) rfl ?_ | refine aw_astoreQ (q := 306) dJ4_resize_304 (by decide) rfl ?_
        refine aw_ifnonnull_n (q := 309) dJ4_resize_306 rfl ?_
        exact AW.bud (aw_locals (by exact ⟨rfl, rfl, rfl, rfl, rfl, rfl, rfl, rfl, by (rw [elast]; rfl), rfl, trivial⟩) (fin μ2 _ hP2 htn2 hrl2 hpush (hkp.tr hk2))) (by omega) (by omega)
  | cons w rest ih =>
    intro z μ1 nx rl rh htn hP hc hzr hrl hrh hnl hnh hrlm hrhm hmem hlen2 hkp
    have hzl : z ∈ l := (hmem z).mpr (Or.inr (Or.inr List.mem_cons_self))
    obtain ⟨hz8, hz1⟩ := hP z hzl
    rw [hc.1] at hz1
    simp only [List.head?_cons, Option.map_some, zrf_s] at hz1
    have hzw := List.nodup_cons.mp hzr
    have htnn : ∀ x, x ∈ l → ν x ≠ tn := fun x hx => zneq (hP x hx).2 htn (by simp)
    simp only [List.length_cons] at hlen2
    by_cases hb : z / n % 2 = 0
    · have fin : ∀ (μ2 : zM) (nx2 : Nat → Option Nat), zPn μ2 R o ν ky vl nx2 (· ∈ l) → μ2 tn = some (hbT R o, aN G (2 * n) ft) → zCh nx2 (w :: rest) → zRl nx2 (z :: rl) → zRl nx2 rh → zKp (zKB R o tn l) μ0 μ2 → AW G 6 MJ4_resize post bc bs 235 [(0, .ref m), (1, .ref tb), (2, .int (nI n)), (4, .int (nI (2 * n))), (6, .ref tn), (7, .int (nI j)), (8, .ref (ν w)), (9, va_rf ((z :: rl).getLast?.map ν)), (10, .ref (ν z)), (11, va_rf (rh.getLast?.map ν)), (12, va_rf (rh.head?.map ν))] [] μ2 := by
        intro μ2 nx2 hP2 htn2 hc2 hr2 hh2 hk2
        refine aw_locals ?_ (ih w μ2 nx2 (z :: rl) rh htn2 hP2 hc2 hzw.2 hr2 hh2 (List.nodup_cons.mpr ⟨fun q => (hrlm z q).2 List.mem_cons_self, hnl⟩) hnh ?_ ?_ ?_ ?_ hk2)
        · exact ⟨rfl, rfl, rfl, rfl, rfl, rfl, rfl, rfl, rfl, rfl, rfl, trivial⟩
        · intro x hx
          rcases List.mem_cons.mp hx with q | q
          · rw [q]; exact ⟨hb, hzw.1⟩
          · exact ⟨(hrlm x q).1, fun e => (hrlm x q).2 (List.mem_cons_of_mem _ e)⟩
        · intro x hx
          exact ⟨(hrhm x hx).1, fun e => (hrhm x hx).2 (List.mem_cons_of_mem _ e)⟩
        · intro x
          rw [hmem x, List.mem_cons (a := x) (b := z) (l := w :: rest), List.mem_cons (a := x) (b := z) (l := rl)]
          constructor
          · rintro (q | q | q | q)
            · exact Or.inl (Or.inr q)
            · exact Or.inr (Or.inl q)
            · exact Or.inl (Or.inl q)
            · exact Or.inr (Or.inr q)
          · rintro ((q | q) | q | q)
            · exact Or.inr (Or.inr (Or.inl q))
            · exact Or.inl q
            · exact Or.inr (Or.inl q)
            · exact Or.inr (Or.inr (Or.inr q))
        · simp only [List.length_cons]; omega
      first | refine aw_aload (q := 237) dJ4_resize_235 rfl rfl ?_ | refine aw_aloadN (q := 237) dJ4_resize_235 rfl rfl ?_ | refine aw_aloadQ (q := 237) dJ4_resize_235 rfl rfl ?_
      first | refine aw_getfield (q := 240) dJ4_resize_237 gf_J4_177_13 (by assumption) rfl rfl ?_ | refine aw_getfield (q := 240) dJ4_resize_237 gf_J4_177_15 (by assumption) rfl rfl ?_ | refine aw_nd (i := 3) (q := 240) dJ4_resize_237 gf_J4_177_13 gf_J4_177_15 (by assumption) rfl rfl ?_
      first | refine aw_astore (q := 242) dJ4_resize_240 (by decide) rfl ?_ | refine aw_astoreN (q := 242) dJ4_resize_240 (by decide) rfl ?_ | refine aw_astoreQ (q := 242) dJ4_resize_240 (by decide) rfl ?_
      try simp (config := {decide := true}) only [zput, zdel_q, zdel_f, zdel_t, zdel_nil, zdel_r, zdel_i, zdel_n]
      first | refine aw_aload (q := 244) dJ4_resize_242 rfl rfl ?_ | refine aw_aloadN (q := 244) dJ4_resize_242 rfl rfl ?_ | refine aw_aloadQ (q := 244) dJ4_resize_242 rfl rfl ?_
      first | refine aw_getfield (q := 247) dJ4_resize_244 gf_J4_168_13 (by assumption) rfl rfl ?_ | refine aw_getfield (q := 247) dJ4_resize_244 gf_J4_168_15 (by assumption) rfl rfl ?_ | refine aw_nd (i := 0) (q := 247) dJ4_resize_244 gf_J4_168_13 gf_J4_168_15 (by assumption) rfl rfl ?_
      refine aw_iload_n (i := 2) (q := 248) dJ4_resize_247 rfl rfl rfl ?_
      refine aw_iand (q := 249) dJ4_resize_248 rfl ?_
      refine aw_if_ne (tgt := 278) (q := 252) dJ4_resize_249 (by decide) rfl (fun hZ => absurd (((i_bit hn (by omega) (by omega)).mpr hb)) hZ) (fun _ => ?_)
      first | refine aw_aload (q := 254) dJ4_resize_252 rfl rfl ?_ | refine aw_aloadN (q := 254) dJ4_resize_252 rfl rfl ?_ | refine aw_aloadQ (q := 254) dJ4_resize_252 rfl rfl ?_
      rcases rl with _ | ⟨y, rl⟩
      · simp only [List.head?_nil, Option.map_none, zrf_n]
        refine aw_ifnonnull_n (q := 257) dJ4_resize_254 rfl ?_
        first | refine aw_aload (q := 259) dJ4_resize_257 rfl rfl ?_ | refine aw_aloadN (q := 259) dJ4_resize_257 rfl rfl ?_ | refine aw_aloadQ (q := 259) dJ4_resize_257 rfl rfl ?_
        first | refine aw_astore (q := 261) dJ4_resize_259 (by decide) rfl ?_ | refine aw_astoreN (q := 261) dJ4_resize_259 (by decide) rfl ?_ | refine aw_astoreQ (q := 261) dJ4_resize_259 (by decide) rfl ?_
        try simp (config := {decide := true}) only [zput, zdel_q, zdel_f, zdel_t, zdel_nil, zdel_r, zdel_i, zdel_n]
        refine aw_goto (tgt := 271) dJ4_resize_261 (by decide) ?_
        first | refine aw_aload (q := 273) dJ4_resize_271 rfl rfl ?_ | refine aw_aloadN (q := 273) dJ4_resize_271 rfl rfl ?_ | refine aw_aloadQ (q := 273) dJ4_resize_271 rfl rfl ?_
        first | refine aw_astore (q := 275) dJ4_resize_273 (by decide) rfl ?_ | refine aw_astoreN (q := 275) dJ4_resize_273 (by decide) rfl ?_ | refine aw_astoreQ (q := 275) dJ4_resize_273 (by decide) rfl ?_
        try simp (config := {decide := true}) only [zput, zdel_q, zdel_f, zdel_t, zdel_nil, zdel_r, zdel_i, zdel_n]
        refine aw_goto (tgt := 301) dJ4_resize_275 (by decide) ?_
        first | refine aw_aload (q := 303) dJ4_resize_301 rfl rfl ?_ | refine aw_aloadN (q := 303) dJ4_resize_301 rfl rfl ?_ | refine aw_aloadQ (q := 303) dJ4_resize_301 rfl rfl ?_
        refine aw_dup (q := 304) dJ4_resize_303 (by first | rfl | exact zcat_rf _) rfl ?_
        first | refine aw_astore (q := 306) dJ4_resize_304 (by decide) rfl ?_ | refine aw_astoreN (q := 306) dJ4_resize_304 (by decide) rfl ?_ | refine aw_astoreQ (q := 306) dJ4_resize_304 (by decide) rfl ?_
        refine aw_ifnonnull_r (tgt := 235) dJ4_resize_306 (by decide) ?_
        exact AW.bud (aw_locals (by exact ⟨rfl, rfl, rfl, rfl, rfl, rfl, rfl, rfl, rfl, rfl, rfl, trivial⟩) (fin μ1 nx hP htn hc.2 ⟨fun y hy => (by cases hy), trivial⟩ hrh hkp)) (by omega) (by omega)
      · have hyl : y ∈ l := (hmem y).mpr (Or.inl List.mem_cons_self)
        have hyz := (hrlm y List.mem_cons_self).2
        have hy1 := (hP y hyl).2
        have elast : (z :: y :: rl).getLast? = (y :: rl).getLast? := List.getLast?_cons_cons
        simp only [List.head?_cons, Option.map_some, zrf_s]
        refine aw_ifnonnull_r (tgt := 264) dJ4_resize_254 (by decide) ?_
        first | refine aw_aload (q := 266) dJ4_resize_264 rfl rfl ?_ | refine aw_aloadN (q := 266) dJ4_resize_264 rfl rfl ?_ | refine aw_aloadQ (q := 266) dJ4_resize_264 rfl rfl ?_
        first | refine aw_aload (q := 268) dJ4_resize_266 rfl rfl ?_ | refine aw_aloadN (q := 268) dJ4_resize_266 rfl rfl ?_ | refine aw_aloadQ (q := 268) dJ4_resize_266 rfl rfl ?_
        first | refine aw_putfield (q := 271) dJ4_resize_268 gf_J4_177_13 hy1 (by first | assumption | simp) (by first | rfl | exact znar_rf _ _ | exact zB_nar _) (by first | rfl | exact zfit_rf _ _ | exact zB_fit _) (Nat.le_of_ble_eq_true rfl) rfl (fun μ2 hg_μ2 => ?_) | refine aw_putfield (q := 271) dJ4_resize_268 gf_J4_177_15 hy1 (by first | assumption | simp) (by first | rfl | exact znar_rf _ _ | exact zB_nar _) (by first | rfl | exact zfit_rf _ _ | exact zB_fit _) (Nat.le_of_ble_eq_true rfl) rfl (fun μ2 hg_μ2 => ?_)
        have hy1 : μ2 _ = some _ := hg_μ2 ▸ updM_eq _ _ _
        simp only [List.set] at hy1 hg_μ2
        have hP2 := hP.p_nx hyl (some z) hg_μ2
        have htn2 : μ2 tn = some _ := hg_μ2 ▸ (updM_ne (Ne.symm (htnn y hyl))).trans htn
        have hk2 : zKp (zKB R o tn l) μ1 μ2 := hg_μ2 ▸ zKp.put (hP y hyl).2 (Or.inr ⟨y, hyl, rfl⟩)
        have hpush := hrl.push (e := z) hnl
        have hc2 : zCh (va_up nx y (some z)) (w :: rest) := hc.2.congr (fun x hx => va_up_ne _ _ (fun e => hyz (e ▸ List.mem_cons_of_mem _ hx)))
        have hrh2 : zRl (va_up nx y (some z)) rh := by
          cases rh with
          | nil => trivial
          | cons v rh => exact hrh.congr (fun x hx => va_up_ne _ _ (fun e => (hrhm x (List.mem_cons_of_mem _ hx)).1 (e ▸ (hrlm y List.mem_cons_self).1)))
        first | refine aw_aload (q := 273) dJ4_resize_271 rfl rfl ?_ | refine aw_aloadN (q := 273) dJ4_resize_271 rfl rfl ?_ | refine aw_aloadQ (q := 273) dJ4_resize_271 rfl rfl ?_
        first | refine aw_astore (q := 275) dJ4_resize_273 (by decide) rfl ?_ | refine aw_astoreN (q := 275) dJ4_resize_273 (by decide) rfl ?_ | refine aw_astoreQ (q := 275) dJ4_resize_273 (by decide) rfl ?_
        try simp (config := {decide := true}) only [zput, zdel_q, zdel_f, zdel_t, zdel_nil, zdel_r, zdel_i, zdel_n]
        refine aw_goto (tgt := 301) dJ4_resize_275 (by decide) ?_
        first | refine aw_aload (q := 303) dJ4_resize_301 rfl rfl ?_ | refine aw_aloadN (q := 303) dJ4_resize_301 rfl rfl ?_ | refine aw_aloadQ (q := 303) dJ4_resize_301 rfl rfl ?_
        refine aw_dup (q := 304) dJ4_resize_303 (by first | rfl | exact zcat_rf _) rfl ?_
        first | refine aw_astore (q := 306) dJ4_resize_304 (by decide) rfl ?_ | refine aw_astoreN (q := 306) dJ4_resize_304 (by decide) rfl ?_ | refine aw_astoreQ (q := 306) dJ4_resize_304 (by decide) rfl ?_
        refine aw_ifnonnull_r (tgt := 235) dJ4_resize_306 (by decide) ?_
        exact AW.bud (aw_locals (by exact ⟨rfl, rfl, rfl, rfl, rfl, rfl, rfl, by (rw [elast]; rfl), rfl, rfl, rfl, trivial⟩) (fin μ2 _ hP2 htn2 hc2 hpush hrh2 (hkp.tr hk2))) (by omega) (by omega)
    · have fin : ∀ (μ2 : zM) (nx2 : Nat → Option Nat), zPn μ2 R o ν ky vl nx2 (· ∈ l) → μ2 tn = some (hbT R o, aN G (2 * n) ft) → zCh nx2 (w :: rest) → zRl nx2 rl → zRl nx2 (z :: rh) → zKp (zKB R o tn l) μ0 μ2 → AW G 6 MJ4_resize post bc bs 235 [(0, .ref m), (1, .ref tb), (2, .int (nI n)), (4, .int (nI (2 * n))), (6, .ref tn), (7, .int (nI j)), (8, .ref (ν w)), (9, va_rf (rl.getLast?.map ν)), (10, va_rf (rl.head?.map ν)), (11, va_rf ((z :: rh).getLast?.map ν)), (12, .ref (ν z))] [] μ2 := by
        intro μ2 nx2 hP2 htn2 hc2 hr2 hh2 hk2
        refine aw_locals ?_ (ih w μ2 nx2 rl (z :: rh) htn2 hP2 hc2 hzw.2 hr2 hh2 hnl (List.nodup_cons.mpr ⟨fun q => (hrhm z q).2 List.mem_cons_self, hnh⟩) ?_ ?_ ?_ ?_ hk2)
        · exact ⟨rfl, rfl, rfl, rfl, rfl, rfl, rfl, rfl, rfl, rfl, rfl, trivial⟩
        · intro x hx
          exact ⟨(hrlm x hx).1, fun e => (hrlm x hx).2 (List.mem_cons_of_mem _ e)⟩
        · intro x hx
          rcases List.mem_cons.mp hx with q | q
          · rw [q]; exact ⟨hb, hzw.1⟩
          · exact ⟨(hrhm x q).1, fun e => (hrhm x q).2 (List.mem_cons_of_mem _ e)⟩
        · intro x
          rw [hmem x, List.mem_cons (a := x) (b := z) (l := w :: rest), List.mem_cons (a := x) (b := z) (l := rh)]
          constructor
          · rintro (q | q | q | q)
            · exact Or.inl q
            · exact Or.inr (Or.inl (Or.inr q))
            · exact Or.inr (Or.inl (Or.inl q))
            · exact Or.inr (Or.inr q)
          · rintro (q | (q | q) | q)
            · exact Or.inl q
            · exact Or.inr (Or.inr (Or.inl q))
            · exact Or.inr (Or.inl q)
            · exact Or.inr (Or.inr (Or.inr q))
        · simp only [List.length_cons]; omega
      first | refine aw_aload (q := 237) dJ4_resize_235 rfl rfl ?_ | refine aw_aloadN (q := 237) dJ4_resize_235 rfl rfl ?_ | refine aw_aloadQ (q := 237) dJ4_resize_235 rfl rfl ?_
      first | refine aw_getfield (q := 240) dJ4_resize_237 gf_J4_177_13 (by assumption) rfl rfl ?_ | refine aw_getfield (q := 240) dJ4_resize_237 gf_J4_177_15 (by assumption) rfl rfl ?_ | refine aw_nd (i := 3) (q := 240) dJ4_resize_237 gf_J4_177_13 gf_J4_177_15 (by assumption) rfl rfl ?_
      first | refine aw_astore (q := 242) dJ4_resize_240 (by decide) rfl ?_ | refine aw_astoreN (q := 242) dJ4_resize_240 (by decide) rfl ?_ | refine aw_astoreQ (q := 242) dJ4_resize_240 (by decide) rfl ?_
      try simp (config := {decide := true}) only [zput, zdel_q, zdel_f, zdel_t, zdel_nil, zdel_r, zdel_i, zdel_n]
      first | refine aw_aload (q := 244) dJ4_resize_242 rfl rfl ?_ | refine aw_aloadN (q := 244) dJ4_resize_242 rfl rfl ?_ | refine aw_aloadQ (q := 244) dJ4_resize_242 rfl rfl ?_
      first | refine aw_getfield (q := 247) dJ4_resize_244 gf_J4_168_13 (by assumption) rfl rfl ?_ | refine aw_getfield (q := 247) dJ4_resize_244 gf_J4_168_15 (by assumption) rfl rfl ?_ | refine aw_nd (i := 0) (q := 247) dJ4_resize_244 gf_J4_168_13 gf_J4_168_15 (by assumption) rfl rfl ?_
      refine aw_iload_n (i := 2) (q := 248) dJ4_resize_247 rfl rfl rfl ?_
      refine aw_iand (q := 249) dJ4_resize_248 rfl ?_
      refine aw_if_ne (tgt := 278) (q := 252) dJ4_resize_249 (by decide) rfl (fun _ => ?_) (fun hZ => absurd hZ ((fun q => hb ((i_bit hn (by omega) (by omega)).mp q))))
      first | refine aw_aload (q := 280) dJ4_resize_278 rfl rfl ?_ | refine aw_aloadN (q := 280) dJ4_resize_278 rfl rfl ?_ | refine aw_aloadQ (q := 280) dJ4_resize_278 rfl rfl ?_
      rcases rh with _ | ⟨y, rh⟩
      · simp only [List.head?_nil, Option.map_none, zrf_n]
        refine aw_ifnonnull_n (q := 283) dJ4_resize_280 rfl ?_
        first | refine aw_aload (q := 285) dJ4_resize_283 rfl rfl ?_ | refine aw_aloadN (q := 285) dJ4_resize_283 rfl rfl ?_ | refine aw_aloadQ (q := 285) dJ4_resize_283 rfl rfl ?_
        first | refine aw_astore (q := 287) dJ4_resize_285 (by decide) rfl ?_ | refine aw_astoreN (q := 287) dJ4_resize_285 (by decide) rfl ?_ | refine aw_astoreQ (q := 287) dJ4_resize_285 (by decide) rfl ?_
        try simp (config := {decide := true}) only [zput, zdel_q, zdel_f, zdel_t, zdel_nil, zdel_r, zdel_i, zdel_n]
        refine aw_goto (tgt := 297) dJ4_resize_287 (by decide) ?_
        first | refine aw_aload (q := 299) dJ4_resize_297 rfl rfl ?_ | refine aw_aloadN (q := 299) dJ4_resize_297 rfl rfl ?_ | refine aw_aloadQ (q := 299) dJ4_resize_297 rfl rfl ?_
        first | refine aw_astore (q := 301) dJ4_resize_299 (by decide) rfl ?_ | refine aw_astoreN (q := 301) dJ4_resize_299 (by decide) rfl ?_ | refine aw_astoreQ (q := 301) dJ4_resize_299 (by decide) rfl ?_
        try simp (config := {decide := true}) only [zput, zdel_q, zdel_f, zdel_t, zdel_nil, zdel_r, zdel_i, zdel_n]
        first | refine aw_aload (q := 303) dJ4_resize_301 rfl rfl ?_ | refine aw_aloadN (q := 303) dJ4_resize_301 rfl rfl ?_ | refine aw_aloadQ (q := 303) dJ4_resize_301 rfl rfl ?_
        refine aw_dup (q := 304) dJ4_resize_303 (by first | rfl | exact zcat_rf _) rfl ?_
        first | refine aw_astore (q := 306) dJ4_resize_304 (by decide) rfl ?_ | refine aw_astoreN (q := 306) dJ4_resize_304 (by decide) rfl ?_ | refine aw_astoreQ (q := 306) dJ4_resize_304 (by decide) rfl ?_
        refine aw_ifnonnull_r (tgt := 235) dJ4_resize_306 (by decide) ?_
        exact AW.bud (aw_locals (by exact ⟨rfl, rfl, rfl, rfl, rfl, rfl, rfl, rfl, rfl, rfl, rfl, trivial⟩) (fin μ1 nx hP htn hc.2 hrl ⟨fun y hy => (by cases hy), trivial⟩ hkp)) (by omega) (by omega)
      · have hyl : y ∈ l := (hmem y).mpr (Or.inr (Or.inl List.mem_cons_self))
        have hyz := (hrhm y List.mem_cons_self).2
        have hy1 := (hP y hyl).2
        have elast : (z :: y :: rh).getLast? = (y :: rh).getLast? := List.getLast?_cons_cons
        simp only [List.head?_cons, Option.map_some, zrf_s]
        refine aw_ifnonnull_r (tgt := 290) dJ4_resize_280 (by decide) ?_
        first | refine aw_aload (q := 292) dJ4_resize_290 rfl rfl ?_ | refine aw_aloadN (q := 292) dJ4_resize_290 rfl rfl ?_ | refine aw_aloadQ (q := 292) dJ4_resize_290 rfl rfl ?_
        first | refine aw_aload (q := 294) dJ4_resize_292 rfl rfl ?_ | refine aw_aloadN (q := 294) dJ4_resize_292 rfl rfl ?_ | refine aw_aloadQ (q := 294) dJ4_resize_292 rfl rfl ?_
        first | refine aw_putfield (q := 297) dJ4_resize_294 gf_J4_177_13 hy1 (by first | assumption | simp) (by first | rfl | exact znar_rf _ _ | exact zB_nar _) (by first | rfl | exact zfit_rf _ _ | exact zB_fit _) (Nat.le_of_ble_eq_true rfl) rfl (fun μ2 hg_μ2 => ?_) | refine aw_putfield (q := 297) dJ4_resize_294 gf_J4_177_15 hy1 (by first | assumption | simp) (by first | rfl | exact znar_rf _ _ | exact zB_nar _) (by first | rfl | exact zfit_rf _ _ | exact zB_fit _) (Nat.le_of_ble_eq_true rfl) rfl (fun μ2 hg_μ2 => ?_)
        have hy1 : μ2 _ = some _ := hg_μ2 ▸ updM_eq _ _ _
        simp only [List.set] at hy1 hg_μ2
        have hP2 := hP.p_nx hyl (some z) hg_μ2
        have htn2 : μ2 tn = some _ := hg_μ2 ▸ (updM_ne (Ne.symm (htnn y hyl))).trans htn
        have hk2 : zKp (zKB R o tn l) μ1 μ2 := hg_μ2 ▸ zKp.put (hP y hyl).2 (Or.inr ⟨y, hyl, rfl⟩)
        have hpush := hrh.push (e := z) hnh
        have hc2 : zCh (va_up nx y (some z)) (w :: rest) := hc.2.congr (fun x hx => va_up_ne _ _ (fun e => hyz (e ▸ List.mem_cons_of_mem _ hx)))
        have hrl2 : zRl (va_up nx y (some z)) rl := by
          cases rl with
          | nil => trivial
          | cons v rl => exact hrl.congr (fun x hx => va_up_ne _ _ (fun e => (hrhm y List.mem_cons_self).1 (e ▸ (hrlm x (List.mem_cons_of_mem _ hx)).1)))
        first | refine aw_aload (q := 299) dJ4_resize_297 rfl rfl ?_ | refine aw_aloadN (q := 299) dJ4_resize_297 rfl rfl ?_ | refine aw_aloadQ (q := 299) dJ4_resize_297 rfl rfl ?_
        first | refine aw_astore (q := 301) dJ4_resize_299 (by decide) rfl ?_ | refine aw_astoreN (q := 301) dJ4_resize_299 (by decide) rfl ?_ | refine aw_astoreQ (q := 301) dJ4_resize_299 (by decide) rfl ?_
        try simp (config := {decide := true}) only [zput, zdel_q, zdel_f, zdel_t, zdel_nil, zdel_r, zdel_i, zdel_n]
        first | refine aw_aload (q := 303) dJ4_resize_301 rfl rfl ?_ | refine aw_aloadN (q := 303) dJ4_resize_301 rfl rfl ?_ | refine aw_aloadQ (q := 303) dJ4_resize_301 rfl rfl ?_
        refine aw_dup (q := 304) dJ4_resize_303 (by first | rfl | exact zcat_rf _) rfl ?_
        first | refine aw_astore (q := 306) dJ4_resize_304 (by decide) rfl ?_ | refine aw_astoreN (q := 306) dJ4_resize_304 (by decide) rfl ?_ | refine aw_astoreQ (q := 306) dJ4_resize_304 (by decide) rfl ?_
        refine aw_ifnonnull_r (tgt := 235) dJ4_resize_306 (by decide) ?_
        exact AW.bud (aw_locals (by exact ⟨rfl, rfl, rfl, rfl, rfl, rfl, rfl, rfl, rfl, by (rw [elast]; rfl), rfl, trivial⟩) (fin μ2 _ hP2 htn2 hc2 hrl2 hpush (hkp.tr hk2))) (by omega) (by omega)
/-- what resize leaves of a table -/
def zRsE (G : zG) (μ : zM) (R o tn n cap : Nat) (ky vl : Nat → Nat) (L : Nat → List Nat) (tr : Nat → Bool) : Option Value → zM → Prop := fun v μ' => v = some (.ref tn) ∧ ∃ (ftn : Nat → Option Nat) (L' : Nat → List Nat) (tr' : Nat → Bool), zTab G μ' R o tn (2 * n) cap ky vl ftn L' tr' ∧ (∀ i, i < 2 * n → ∀ x, x ∈ L' i ↔ x ∈ L (i % n) ∧ x % (2 * n) = i) ∧ (∀ i, i < 2 * n → tr (i % n) = false → tr' i = false) ∧ zKp (fun _ u => u = hbT R o ∨ ∃ h, h < 8192 ∧ u = hnT R o h) μ μ'
theorem tSums_mono {φ : Nat → Nat} {j : Nat} : ∀ n, j ≤ n → tSums φ j ≤ tSums φ n
  | 0, h => by rw [show j = 0 by omega]; exact Nat.le_refl _
  | n + 1, h => by
    by_cases e : j = n + 1
    · rw [e]; exact Nat.le_refl _
    · have := tSums_mono (φ := φ) n (show j ≤ n by omega)
      show tSums φ j ≤ tSums φ n + φ n
      omega
set_option maxHeartbeats 8000000 in
/-- 151: the loop over the bins -/
theorem rsz_loop {m tb tn n k cap0 cap : Nat} {ft : Nat → Option Nat} {L : Nat → List Nat} {tr : Nat → Bool} {fs : List Value} {μ0 : zM} (hn : 2 ^ k = n) (hk : k < 8) (hR : 1 ≤ R) (hcc : cap0 ≤ cap) (hcap : 6 ≤ cap) (hLm : ∀ i, i < n → ∀ x, x ∈ L i → x % n = i) (hll : ∀ i, i < n → (L i).length < 2 ^ 20) (hne : tb ≠ tn) (hpost : ∀ v μ', zRsE G μ0 R o tn n cap ky vl L tr v μ' → post v μ') :
    ∀ d j, j + d = n → ∀ (μ1 : zM) (fto ftn : Nat → Option Nat) (L' : Nat → List Nat) (tr' : Nat → Bool), μ1 m = some (hmT R o, .inr (19, fs)) → μ1 tb = some (hbT R o, aN G n fto) → (∀ i, j ≤ i → i < n → fto i = ft i) → μ1 tn = some (hbT R o, aN G (2 * n) ftn) → (∀ i, j ≤ i → i < n → zBin μ1 R o cap0 ky vl (tr i) (ft i) (L i)) →
      (∀ i, i < 2 * n → (i % n < j → zBin μ1 R o cap ky vl (tr' i) (ftn i) (L' i) ∧ (∀ x, x ∈ L' i ↔ x ∈ L (i % n) ∧ x % (2 * n) = i) ∧ (tr (i % n) = false → tr' i = false)) ∧ (j ≤ i % n → ftn i = none)) → zKp (fun _ u => u = hbT R o ∨ ∃ h, h < 8192 ∧ u = hnT R o h) μ0 μ1 →
      AW G 6 MJ4_resize post (tSums (fun i => (L i).length) n - tSums (fun i => (L i).length) j) (4 * (tSums (fun i => (L i).length) n - tSums (fun i => (L i).length) j)) 151 (zRL m tb n tn j) [] μ1 := by
  have hn256 : n ≤ 2 ^ 7 := hn ▸ Nat.pow_le_pow_right (by decide) (by omega)
  have hn0 : 0 < n := hn ▸ Nat.two_pow_pos k
  have htz : hbT R o ≠ zC := fun e => by have e1 : R + 1 = 0 := congrArg Prod.fst e; omega
  intro d
  induction d with
  | zero =>
    intro j hj μ1 fto ftn L' tr' hm htb hfo htn hbin hnew hkp
    have hjn : j = n := by omega
    subst hjn
    refine aw_iload (q := 153) dJ4_resize_151 rfl rfl ?_
    refine aw_iload_n (i := 2) (q := 154) dJ4_resize_153 rfl rfl rfl ?_
    refine aw_icmp_ge (tgt := 353) (q := 157) dJ4_resize_154 (by decide) rfl (fun _ => ?_) (fun hZ => absurd (nI_le (Nat.le_refl _) (by omega)) hZ)
    first | refine aw_aload (q := 355) dJ4_resize_353 rfl rfl ?_ | refine aw_aloadN (q := 355) dJ4_resize_353 rfl rfl ?_ | refine aw_aloadQ (q := 355) dJ4_resize_353 rfl rfl ?_
    exact aw_areturnR dJ4_resize_355 rfl (by first | exact Or.inl ⟨_, rfl⟩ | exact Or.inr ⟨_, rfl⟩) (hpost _ _ ⟨rfl, ftn, L', tr', ⟨htn, fun i hi => ⟨((hnew i hi).1 (Nat.mod_lt _ hn0)).1, fun x hx => (((hnew i hi).1 (Nat.mod_lt _ hn0)).2.1 x).mp hx |>.2⟩⟩, fun i hi => ((hnew i hi).1 (Nat.mod_lt _ hn0)).2.1, fun i hi => ((hnew i hi).1 (Nat.mod_lt _ hn0)).2.2, hkp⟩)
  | succ d ih =>
    intro j hj μ1 fto ftn L' tr' hm htb hfo htn hbin hnew hkp
    have hjn : j < n := by omega
    have hs1 : tSums (fun i => (L i).length) (j + 1) = tSums (fun i => (L i).length) j + (L j).length := rfl
    have hs2 := tSums_mono (φ := fun i => (L i).length) n (show j + 1 ≤ n by omega)
    have hmodj : j % n = j := Nat.mod_eq_of_lt hjn
    have hmodjn : (j + n) % n = j := by rw [Nat.add_mod_right]; exact hmodj
    have hf0 : ftn j = none := (hnew j (by omega)).2 (by omega)
    have hfn : ftn (j + n) = none := (hnew (j + n) (by omega)).2 (by omega)
    have hbj := hbin j (Nat.le_refl _) hjn
    have h8 : ∀ x, x ∈ L j → x < 8192 := fun x hx => by
      obtain ⟨_, _, -, -, -, g⟩ := hbj.node
      exact (g x hx).1
    -- the next bin
    have next : ∀ (μ2 : zM) (fto2 : Nat → Option Nat), μ2 tb = some (hbT R o, aN G n fto2) → (∀ i, j + 1 ≤ i → i < n → fto2 i = ft i) → zKp (fun c u => c = tb) μ1 μ2 → ∀ μ', zDone G μ2 R o tn n j cap ky vl ftn (L j) (tr j) μ' → AW G 6 MJ4_resize post (tSums (fun i => (L i).length) n - tSums (fun i => (L i).length) (j + 1)) (4 * (tSums (fun i => (L i).length) n - tSums (fun i => (L i).length) (j + 1))) 347 (zRL m tb n tn j) [] μ' := by
      intro μ2 fto2 htb2 hfo2 hk12 μ' hd
      obtain ⟨ft', lo, hi, tlo, thi, d1, d2, d3, d4, d5, d6, d7, d8⟩ := hd
      have k12 : zKp (fun _ u => u = hbT R o) μ1 μ2 := (hk12.mono (fun c u q => Or.inl (b := False) q)).tag htb |>.mono (fun c u q => q.elim id False.elim)
      have htn2 : μ2 tn = some (hbT R o, aN G (2 * n) ftn) := hk12 _ _ _ htn (fun q => hne q.symm)
      have k2 : zKp (fun _ u => u = hbT R o ∨ ∃ h, h ∈ L j ∧ u = hnT R o h) μ2 μ' := d8.tag htn2
      have k1 : zKp (fun _ u => u = hbT R o ∨ ∃ h, h ∈ L j ∧ u = hnT R o h) μ1 μ' := (k12.mono (fun c u q => Or.inl q)).tr k2
      have htb' : μ' tb = some (hbT R o, aN G n fto2) := d8 _ _ _ htb2 (fun q => q.elim hne (fun ⟨h, _, q⟩ => zTb_ne q.symm))
      have hm' := k1 _ _ _ hm (fun q => q.elim (fun q => zTbm_ne q.symm) (fun ⟨h, _, q⟩ => zTm_ne q.symm))
      have oth : ∀ i cp t f (l : List Nat), i ≠ j → (∀ x, x ∈ l → x % n = i) → zBin μ1 R o cp ky vl t f l → zBin μ' R o cp ky vl t f l := by
        intro i cp t f l hi hl hb
        refine hb.kp k1 (fun x c hx q => ?_)
        rcases q with q | ⟨h, h1, q⟩
        · exact zTb_ne q
        · have e1 := hl x hx
          have e2 := hLm j hjn h h1
          rw [hnT_in q] at e1
          omega
      refine aw_iinc (q := 350) dJ4_resize_347 rfl (by first | exact nI_1 _ | rfl) (by decide) rfl ?_
      try simp (config := {decide := true}) only [zput, zdel_q, zdel_f, zdel_t, zdel_nil, zdel_r, zdel_i, zdel_n]
      refine aw_goto (tgt := 151) dJ4_resize_350 (by decide) ?_
      try rw [nI_1]
      refine aw_locals ?_ (ih (j + 1) (by omega) μ' fto2 ft' (fun i => if i = j then lo else if i = j + n then hi else L' i) (fun i => if i = j then tlo else if i = j + n then thi else tr' i) hm' htb' hfo2 d1 (fun i h1 h2 => oth i _ _ _ _ (by omega) (hLm i h2) (hbin i (by omega) h2)) ?_ (hkp.tr (k1.mono (fun c u q => q.imp id (fun ⟨h, h1, q⟩ => ⟨h, h8 h h1, q⟩)))))
      · exact ⟨rfl, rfl, rfl, rfl, rfl, rfl, trivial⟩
      · intro i hi
        by_cases e1 : i = j
        · subst e1
          try dsimp only
          rw [if_pos rfl, if_pos rfl, hmodj]
          refine ⟨fun _ => ⟨d3, fun x => (d5 x).trans ⟨fun q => ⟨q.1, ?_⟩, fun q => ⟨q.1, ?_⟩⟩, fun q => (d7 q).1⟩, fun q => by omega⟩
          · rw [i_half.1 q.2]; exact hLm i hjn x q.1
          · refine Decidable.byContradiction (fun z => ?_)
            have := i_half.2 z
            omega
        · by_cases e2 : i = j + n
          · subst e2
            try dsimp only
            rw [if_neg e1, if_pos rfl, if_neg e1, if_pos rfl, hmodjn]
            refine ⟨fun _ => ⟨d4, fun x => (d6 x).trans ⟨fun q => ⟨q.1, ?_⟩, fun q => ⟨q.1, fun z => ?_⟩⟩, fun q => (d7 q).2⟩, fun q => by omega⟩
            · rw [i_half.2 q.2, hLm j hjn x q.1]
            · have h1 := i_half.1 z
              have h2 := hLm j hjn x q.1
              omega
          · try dsimp only
            rw [if_neg e1, if_neg e2, if_neg e1, if_neg e2, d2 i e1 e2]
            have hij : i % n ≠ j := by
              intro q
              rcases Nat.lt_or_ge i n with h | h
              · rw [Nat.mod_eq_of_lt h] at q; exact e1 q
              · have h3 : i % n = i - n := by rw [Nat.mod_eq_sub_mod h, Nat.mod_eq_of_lt (by omega)]
                omega
            refine ⟨fun q => ?_, fun q => (hnew i hi).2 (by omega)⟩
            obtain ⟨g1, g2, g3⟩ := (hnew i hi).1 (by omega)
            exact ⟨oth (i % n) _ _ _ _ hij (fun x hx => hLm _ (Nat.mod_lt _ hn0) x ((g2 x).mp hx).1) g1, g2, g3⟩
    refine aw_iload (q := 153) dJ4_resize_151 rfl rfl ?_
    refine aw_iload_n (i := 2) (q := 154) dJ4_resize_153 rfl rfl rfl ?_
    refine aw_icmp_ge (tgt := 353) (q := 157) dJ4_resize_154 (by decide) rfl (fun hZ => absurd hZ (nI_ge hjn (by omega))) (fun _ => ?_)
    first | refine aw_aload_n (i := 1) (q := 158) dJ4_resize_157 rfl rfl rfl ?_ | refine aw_aloadN_n (i := 1) (q := 158) dJ4_resize_157 rfl rfl rfl ?_ | refine aw_aloadQ_n (i := 1) (q := 158) dJ4_resize_157 rfl rfl rfl ?_
    refine aw_iload (q := 160) dJ4_resize_158 rfl rfl ?_
    first | refine aw_aaldO (q := 161) (v := ft j) (j) dJ4_resize_160 htb (by first | assumption | (simp only [← nI_add, ← pk_mul]; rfl) | rfl) (by omega) (by omega) (hfo j (Nat.le_refl _) hjn) rfl ?_ | refine aw_aaldP (q := 161) (v := ft j) (j) dJ4_resize_160 htb (by first | assumption | (simp only [← nI_add, ← pk_mul]; rfl) | rfl) (by omega) (by omega) (hfo j (Nat.le_refl _) hjn) rfl ?_ | refine aw_aaldN (q := 161) (v := ft j) (j) dJ4_resize_160 htb (by first | assumption | (simp only [← nI_add, ← pk_mul]; rfl) | rfl) (by omega) (by omega) (hfo j (Nat.le_refl _) hjn) rfl ?_
    refine aw_dup (q := 162) dJ4_resize_161 (by first | rfl | exact zcat_rf _) rfl ?_
    first | refine aw_astore (q := 164) dJ4_resize_162 (by decide) rfl ?_ | refine aw_astoreN (q := 164) dJ4_resize_162 (by decide) rfl ?_ | refine aw_astoreQ (q := 164) dJ4_resize_162 (by decide) rfl ?_
    have hm0 := hm
    cases htr : tr j with
    | false =>
      rw [htr] at hbj next
      obtain ⟨ν, nx, hf, hc, hnd, hP, -⟩ := hbj
      obtain ⟨hP, hlen⟩ := hP rfl
      rw [hf]
      generalize hLj : L j = lj at *
      rcases lj with _ | ⟨x, l⟩
      · simp only [List.head?_nil, Option.map_none, zrf_n]
        refine aw_ifnull_n (tgt := 347) dJ4_resize_164 (by decide) ?_
        refine AW.bud (aw_locals ?_ (next μ1 fto htb (fun i h1 h2 => hfo i (by omega) h2) zKp.rf μ1 ⟨ftn, [], [], false, false, htn, fun _ _ _ => rfl, hf0 ▸ zBin.nil, hfn ▸ zBin.nil, fun x => ⟨fun q => absurd q List.not_mem_nil, fun q => absurd q.1 List.not_mem_nil⟩, fun x => ⟨fun q => absurd q List.not_mem_nil, fun q => absurd q.1 List.not_mem_nil⟩, fun _ => ⟨rfl, rfl⟩, zKp.rf⟩)) (by omega) (by omega)
        exact ⟨rfl, rfl, rfl, rfl, rfl, rfl, trivial⟩
      · have hxl : x ∈ x :: l := List.mem_cons_self
        obtain ⟨hx8, hx1⟩ := hP x hxl
        have htbn : ∀ z, z ∈ x :: l → ν z ≠ tb := fun z hz => zneq (hP z hz).2 htb (by simp)
        have htnn : ∀ z, z ∈ x :: l → ν z ≠ tn := fun z hz => zneq (hP z hz).2 htn (by simp)
        have hxj : x % n = j := hLm j hjn x (by rw [hLj]; exact hxl)
        simp only [List.head?_cons, Option.map_some, zrf_s]
        refine aw_ifnull_r (q := 167) dJ4_resize_164 rfl ?_
        first | refine aw_aload_n (i := 1) (q := 168) dJ4_resize_167 rfl rfl rfl ?_ | refine aw_aloadN_n (i := 1) (q := 168) dJ4_resize_167 rfl rfl rfl ?_ | refine aw_aloadQ_n (i := 1) (q := 168) dJ4_resize_167 rfl rfl rfl ?_
        refine aw_iload (q := 170) dJ4_resize_168 rfl rfl ?_
        refine aw_null (q := 171) dJ4_resize_170 rfl ?_
        refine aw_aastN (j := 5) (E := "java/util/HashMap$Node") j (q := 172) dJ4_resize_171 rfl htb htz rfl hjn (by omega) rfl (fun μ2 hg_μ2 => ?_)
        have htb2 : μ2 tb = some _ := hg_μ2 ▸ updM_eq _ _ _
        have k12 : zKp (fun c u => c = tb) μ1 μ2 := hg_μ2 ▸ zKp.up
        have htn2 : μ2 tn = some _ := k12 _ _ _ htn (fun q => hne q.symm)
        have hP2 : zPn μ2 R o ν ky vl nx (· ∈ x :: l) := fun z hz => ⟨(hP z hz).1, k12 _ _ _ (hP z hz).2 (htbn z hz)⟩
        have hx2 := (hP2 x hxl).2
        rw [hc.1] at hx2
        have next := next μ2 _ htb2 (fun i h1 h2 => (va_up_ne _ _ (by omega)).trans (hfo i (by omega) h2)) k12
        first | refine aw_aload (q := 174) dJ4_resize_172 rfl rfl ?_ | refine aw_aloadN (q := 174) dJ4_resize_172 rfl rfl ?_ | refine aw_aloadQ (q := 174) dJ4_resize_172 rfl rfl ?_
        first | refine aw_getfield (q := 177) dJ4_resize_174 gf_J4_177_13 (by assumption) rfl rfl ?_ | refine aw_getfield (q := 177) dJ4_resize_174 gf_J4_177_15 (by assumption) rfl rfl ?_ | refine aw_nd (i := 3) (q := 177) dJ4_resize_174 gf_J4_177_13 gf_J4_177_15 (by assumption) rfl rfl ?_
        rcases l with _ | ⟨y, l⟩
        · simp only [List.head?_nil, Option.map_none, zrf_n] at hx2 ⊢
          refine aw_ifnonnull_n (q := 180) dJ4_resize_177 rfl ?_
          first | refine aw_aload (q := 182) dJ4_resize_180 rfl rfl ?_ | refine aw_aloadN (q := 182) dJ4_resize_180 rfl rfl ?_ | refine aw_aloadQ (q := 182) dJ4_resize_180 rfl rfl ?_
          first | refine aw_aload (q := 184) dJ4_resize_182 rfl rfl ?_ | refine aw_aloadN (q := 184) dJ4_resize_182 rfl rfl ?_ | refine aw_aloadQ (q := 184) dJ4_resize_182 rfl rfl ?_
          first | refine aw_getfield (q := 187) dJ4_resize_184 gf_J4_168_13 (by assumption) rfl rfl ?_ | refine aw_getfield (q := 187) dJ4_resize_184 gf_J4_168_15 (by assumption) rfl rfl ?_ | refine aw_nd (i := 0) (q := 187) dJ4_resize_184 gf_J4_168_13 gf_J4_168_15 (by assumption) rfl rfl ?_
          refine aw_iload (q := 189) dJ4_resize_187 rfl rfl ?_
          refine aw_iconst (v := 1) (q := 190) dJ4_resize_189 rfl rfl ?_
          refine aw_isub (q := 191) dJ4_resize_190 rfl ?_
          refine aw_iand (q := 192) dJ4_resize_191 rfl ?_
          first | refine aw_aload (q := 194) dJ4_resize_192 rfl rfl ?_ | refine aw_aloadN (q := 194) dJ4_resize_192 rfl rfl ?_ | refine aw_aloadQ (q := 194) dJ4_resize_192 rfl rfl ?_
          rw [show nI (2 * n) - 1 = nI (2 * n - 1) by rw [show 2 * n = (2 * n - 1) + 1 by omega]; exact nI_pred _, Int32.and_comm, i_mask (k := k + 1) (by rw [← hn, Nat.pow_succ, Nat.mul_comm]) (by omega) (by omega)]
          have hx2n : x % (2 * n) < 2 * n := Nat.mod_lt _ (by omega)
          refine aw_aastX (j := 5) (E := "java/util/HashMap$Node") (x % (2 * n)) (q := 195) dJ4_resize_194 rfl htn2 htz hx2 ca_13_J18 rfl hx2n (by omega) rfl (fun μ3 hg_μ3 => ?_)
          have htn3 : μ3 tn = some _ := hg_μ3 ▸ updM_eq _ _ _
          have k23 : zKp (zKB R o tn [x]) μ2 μ3 := hg_μ3 ▸ zKp.up.mono (fun c u q => Or.inl q)
          have hP3 : zPn μ3 R o ν ky vl nx (· ∈ [x]) := fun z hz => ⟨(hP2 z hz).1, hg_μ3 ▸ (updM_ne (htnn z hz)).trans (hP2 z hz).2⟩
          have hB3 : zBin μ3 R o cap ky vl false (some (ν x)) [x] := ⟨ν, nx, rfl, hc, hnd, fun _ => ⟨hP3, by simp only [List.length_cons, List.length_nil]; omega⟩, fun q => by cases q⟩
          have hd : zDone G μ2 R o tn n j cap ky vl ftn [x] false μ3 := by
            by_cases hb : x / n % 2 = 0
            · have e0 : x % (2 * n) = j := by rw [i_half.1 hb]; exact hxj
              rw [e0] at htn3
              refine ⟨_, [x], [], false, false, htn3, fun i h1 _ => va_up_ne _ _ h1, by rw [va_up_self]; exact hB3, by rw [va_up_ne _ _ (by omega), hfn]; exact zBin.nil, fun z => ⟨fun q => ⟨q, by rw [List.mem_singleton.mp q]; exact hb⟩, fun q => q.1⟩, fun z => ⟨fun q => absurd q List.not_mem_nil, fun q => absurd hb (by have := List.mem_singleton.mp q.1; rw [← this]; exact q.2)⟩, fun _ => ⟨rfl, rfl⟩, k23⟩
            · have e0 : x % (2 * n) = j + n := by rw [i_half.2 hb, hxj]
              rw [e0] at htn3
              refine ⟨_, [], [x], false, false, htn3, fun i _ h1 => va_up_ne _ _ h1, by rw [va_up_ne _ _ (by omega), hf0]; exact zBin.nil, by rw [va_up_self]; exact hB3, fun z => ⟨fun q => absurd q List.not_mem_nil, fun q => absurd q.2 (by have := List.mem_singleton.mp q.1; rw [this]; exact hb)⟩, fun z => ⟨fun q => ⟨q, by rw [List.mem_singleton.mp q]; exact hb⟩, fun q => q.1⟩, fun _ => ⟨rfl, rfl⟩, k23⟩
          refine aw_goto (tgt := 347) dJ4_resize_195 (by decide) ?_
          refine AW.bud (aw_locals ?_ (next μ3 hd)) (by omega) (by omega)
          exact ⟨rfl, rfl, rfl, rfl, rfl, rfl, trivial⟩
        · simp only [List.head?_cons, Option.map_some, zrf_s] at hx2 ⊢
          refine aw_ifnonnull_r (tgt := 198) dJ4_resize_177 (by decide) ?_
          first | refine aw_aload (q := 200) dJ4_resize_198 rfl rfl ?_ | refine aw_aloadN (q := 200) dJ4_resize_198 rfl rfl ?_ | refine aw_aloadQ (q := 200) dJ4_resize_198 rfl rfl ?_
          refine aw_instNo (q := 203) dJ4_resize_200 q739 hx2 rfl (by simp [zNcL]; decide +kernel) rfl ?_
          refine aw_if_eq (tgt := 223) (q := 206) dJ4_resize_203 (by decide) rfl (fun _ => ?_) (fun hZ => absurd (rfl) hZ)
          refine aw_null (q := 224) dJ4_resize_223 rfl ?_
          first | refine aw_astore (q := 226) dJ4_resize_224 (by decide) rfl ?_ | refine aw_astoreN (q := 226) dJ4_resize_224 (by decide) rfl ?_ | refine aw_astoreQ (q := 226) dJ4_resize_224 (by decide) rfl ?_
          try simp (config := {decide := true}) only [zput, zdel_q, zdel_f, zdel_t, zdel_nil, zdel_r, zdel_i, zdel_n]
          refine aw_null (q := 227) dJ4_resize_226 rfl ?_
          first | refine aw_astore (q := 229) dJ4_resize_227 (by decide) rfl ?_ | refine aw_astoreN (q := 229) dJ4_resize_227 (by decide) rfl ?_ | refine aw_astoreQ (q := 229) dJ4_resize_227 (by decide) rfl ?_
          try simp (config := {decide := true}) only [zput, zdel_q, zdel_f, zdel_t, zdel_nil, zdel_r, zdel_i, zdel_n]
          refine aw_null (q := 230) dJ4_resize_229 rfl ?_
          first | refine aw_astore (q := 232) dJ4_resize_230 (by decide) rfl ?_ | refine aw_astoreN (q := 232) dJ4_resize_230 (by decide) rfl ?_ | refine aw_astoreQ (q := 232) dJ4_resize_230 (by decide) rfl ?_
          try simp (config := {decide := true}) only [zput, zdel_q, zdel_f, zdel_t, zdel_nil, zdel_r, zdel_i, zdel_n]
          refine aw_null (q := 233) dJ4_resize_232 rfl ?_
          first | refine aw_astore (q := 235) dJ4_resize_233 (by decide) rfl ?_ | refine aw_astoreN (q := 235) dJ4_resize_233 (by decide) rfl ?_ | refine aw_astoreQ (q := 235) dJ4_resize_233 (by decide) rfl ?_
          try simp (config := {decide := true}) only [zput, zdel_q, zdel_f, zdel_t, zdel_nil, zdel_r, zdel_i, zdel_n]
          refine AW.bud (aw_locals ?_ (rsz_plain (m := m) (tb := tb) (tn := tn) next hn hk hjn hR hf0 hfn (by omega) hnd (y :: l) x μ2 nx [] [] htn2 hP2 hc hnd trivial trivial List.nodup_nil List.nodup_nil (fun z hz => absurd hz List.not_mem_nil) (fun z hz => absurd hz List.not_mem_nil) (fun z => ⟨fun q => Or.inr (Or.inr q), fun q => q.elim (fun q => absurd q List.not_mem_nil) (fun q => q.elim (fun q => absurd q List.not_mem_nil) id)⟩) (by simp) zKp.rf)) (by omega) (by omega)
          exact ⟨rfl, rfl, rfl, rfl, rfl, rfl, rfl, rfl, rfl, rfl, rfl, trivial⟩
    | true =>
      rw [htr] at hbj next
      obtain ⟨ν, nx, hf, hc, hnd, -, hT⟩ := hbj
      obtain ⟨pa, le, ri, pv, rd, a, b, hT, hTr, hv⟩ := hT rfl
      rw [hf]
      have hlen := hll j hjn
      generalize hLj : L j = lj at *
      rcases lj with _ | ⟨x, l⟩
      · simp only [List.head?_nil, Option.map_none, zrf_n]
        refine aw_ifnull_n (tgt := 347) dJ4_resize_164 (by decide) ?_
        refine AW.bud (aw_locals ?_ (next μ1 fto htb (fun i h1 h2 => hfo i (by omega) h2) zKp.rf μ1 ⟨ftn, [], [], false, false, htn, fun _ _ _ => rfl, hf0 ▸ zBin.nil, hfn ▸ zBin.nil, fun x => ⟨fun q => absurd q List.not_mem_nil, fun q => absurd q.1 List.not_mem_nil⟩, fun x => ⟨fun q => absurd q List.not_mem_nil, fun q => absurd q.1 List.not_mem_nil⟩, fun _ => ⟨rfl, rfl⟩, zKp.rf⟩)) (by omega) (by omega)
        exact ⟨rfl, rfl, rfl, rfl, rfl, rfl, trivial⟩
      · have hxl : x ∈ x :: l := List.mem_cons_self
        obtain ⟨hx8, hx1⟩ := hT x hxl
        have htbn : ∀ z, z ∈ x :: l → ν z ≠ tb := fun z hz => zneq (hT z hz).2 htb (by simp)
        have htnn : ∀ z, z ∈ x :: l → ν z ≠ tn := fun z hz => zneq (hT z hz).2 htn (by simp)
        have hxj : x % n = j := hLm j hjn x (by rw [hLj]; exact hxl)
        simp only [List.head?_cons, Option.map_some, zrf_s]
        refine aw_ifnull_r (q := 167) dJ4_resize_164 rfl ?_
        first | refine aw_aload_n (i := 1) (q := 168) dJ4_resize_167 rfl rfl rfl ?_ | refine aw_aloadN_n (i := 1) (q := 168) dJ4_resize_167 rfl rfl rfl ?_ | refine aw_aloadQ_n (i := 1) (q := 168) dJ4_resize_167 rfl rfl rfl ?_
        refine aw_iload (q := 170) dJ4_resize_168 rfl rfl ?_
        refine aw_null (q := 171) dJ4_resize_170 rfl ?_
        refine aw_aastN (j := 5) (E := "java/util/HashMap$Node") j (q := 172) dJ4_resize_171 rfl htb htz rfl hjn (by omega) rfl (fun μ2 hg_μ2 => ?_)
        have htb2 : μ2 tb = some _ := hg_μ2 ▸ updM_eq _ _ _
        have k12 : zKp (fun c u => c = tb) μ1 μ2 := hg_μ2 ▸ zKp.up
        have htn2 : μ2 tn = some _ := k12 _ _ _ htn (fun q => hne q.symm)
        have hT2 : zTn μ2 R o ν ky vl nx pa le ri pv rd (· ∈ x :: l) := fun z hz => ⟨(hT z hz).1, k12 _ _ _ (hT z hz).2 (htbn z hz)⟩
        have hx2 := (hT2 x hxl).2
        have hm2 := k12 _ _ _ hm (fun q => zneq hm htb (by simp) q)
        rw [hc.1] at hx2
        have next := next μ2 _ htb2 (fun i h1 h2 => (va_up_ne _ _ (by omega)).trans (hfo i (by omega) h2)) k12
        first | refine aw_aload (q := 174) dJ4_resize_172 rfl rfl ?_ | refine aw_aloadN (q := 174) dJ4_resize_172 rfl rfl ?_ | refine aw_aloadQ (q := 174) dJ4_resize_172 rfl rfl ?_
        first | refine aw_getfield (q := 177) dJ4_resize_174 gf_J4_177_13 (by assumption) rfl rfl ?_ | refine aw_getfield (q := 177) dJ4_resize_174 gf_J4_177_15 (by assumption) rfl rfl ?_ | refine aw_nd (i := 3) (q := 177) dJ4_resize_174 gf_J4_177_13 gf_J4_177_15 (by assumption) rfl rfl ?_
        rcases l with _ | ⟨y, l⟩
        · simp only [List.head?_nil, Option.map_none, zrf_n] at hx2 ⊢
          refine aw_ifnonnull_n (q := 180) dJ4_resize_177 rfl ?_
          first | refine aw_aload (q := 182) dJ4_resize_180 rfl rfl ?_ | refine aw_aloadN (q := 182) dJ4_resize_180 rfl rfl ?_ | refine aw_aloadQ (q := 182) dJ4_resize_180 rfl rfl ?_
          first | refine aw_aload (q := 184) dJ4_resize_182 rfl rfl ?_ | refine aw_aloadN (q := 184) dJ4_resize_182 rfl rfl ?_ | refine aw_aloadQ (q := 184) dJ4_resize_182 rfl rfl ?_
          first | refine aw_getfield (q := 187) dJ4_resize_184 gf_J4_168_13 (by assumption) rfl rfl ?_ | refine aw_getfield (q := 187) dJ4_resize_184 gf_J4_168_15 (by assumption) rfl rfl ?_ | refine aw_nd (i := 0) (q := 187) dJ4_resize_184 gf_J4_168_13 gf_J4_168_15 (by assumption) rfl rfl ?_
          refine aw_iload (q := 189) dJ4_resize_187 rfl rfl ?_
          refine aw_iconst (v := 1) (q := 190) dJ4_resize_189 rfl rfl ?_
          refine aw_isub (q := 191) dJ4_resize_190 rfl ?_
          refine aw_iand (q := 192) dJ4_resize_191 rfl ?_
          first | refine aw_aload (q := 194) dJ4_resize_192 rfl rfl ?_ | refine aw_aloadN (q := 194) dJ4_resize_192 rfl rfl ?_ | refine aw_aloadQ (q := 194) dJ4_resize_192 rfl rfl ?_
          rw [show nI (2 * n) - 1 = nI (2 * n - 1) by rw [show 2 * n = (2 * n - 1) + 1 by omega]; exact nI_pred _, Int32.and_comm, i_mask (k := k + 1) (by rw [← hn, Nat.pow_succ, Nat.mul_comm]) (by omega) (by omega)]
          have hx2n : x % (2 * n) < 2 * n := Nat.mod_lt _ (by omega)
          refine aw_aastX (j := 5) (E := "java/util/HashMap$Node") (x % (2 * n)) (q := 195) dJ4_resize_194 rfl htn2 htz hx2 ca_15_J18 rfl hx2n (by omega) rfl (fun μ3 hg_μ3 => ?_)
          have htn3 : μ3 tn = some _ := hg_μ3 ▸ updM_eq _ _ _
          have k23 : zKp (zKB R o tn [x]) μ2 μ3 := hg_μ3 ▸ zKp.up.mono (fun c u q => Or.inl q)
          have hT3 : zTn μ3 R o ν ky vl nx pa le ri pv rd (· ∈ [x]) := fun z hz => ⟨(hT2 z hz).1, hg_μ3 ▸ (updM_ne (htnn z hz)).trans (hT2 z hz).2⟩
          have hB3 : zBin μ3 R o cap ky vl true (some (ν x)) [x] := ⟨ν, nx, rfl, hc, hnd, fun q => by (cases q), fun _ => ⟨pa, le, ri, pv, rd, a, b, hT3, hTr, hv⟩⟩
          have hd : zDone G μ2 R o tn n j cap ky vl ftn [x] true μ3 := by
            by_cases hb : x / n % 2 = 0
            · have e0 : x % (2 * n) = j := by rw [i_half.1 hb]; exact hxj
              rw [e0] at htn3
              refine ⟨_, [x], [], true, false, htn3, fun i h1 _ => va_up_ne _ _ h1, by rw [va_up_self]; exact hB3, by rw [va_up_ne _ _ (by omega), hfn]; exact zBin.nil, fun z => ⟨fun q => ⟨q, by rw [List.mem_singleton.mp q]; exact hb⟩, fun q => q.1⟩, fun z => ⟨fun q => absurd q List.not_mem_nil, fun q => absurd hb (by have := List.mem_singleton.mp q.1; rw [← this]; exact q.2)⟩, fun q => by (cases q), k23⟩
            · have e0 : x % (2 * n) = j + n := by rw [i_half.2 hb, hxj]
              rw [e0] at htn3
              refine ⟨_, [], [x], false, true, htn3, fun i _ h1 => va_up_ne _ _ h1, by rw [va_up_ne _ _ (by omega), hf0]; exact zBin.nil, by rw [va_up_self]; exact hB3, fun z => ⟨fun q => absurd q List.not_mem_nil, fun q => absurd q.2 (by have := List.mem_singleton.mp q.1; rw [this]; exact hb)⟩, fun z => ⟨fun q => ⟨q, by rw [List.mem_singleton.mp q]; exact hb⟩, fun q => q.1⟩, fun q => by (cases q), k23⟩
          refine aw_goto (tgt := 347) dJ4_resize_195 (by decide) ?_
          refine AW.bud (aw_locals ?_ (next μ3 hd)) (by omega) (by omega)
          exact ⟨rfl, rfl, rfl, rfl, rfl, rfl, trivial⟩
        · simp only [List.head?_cons, Option.map_some, zrf_s] at hx2 ⊢
          have hmod : ∀ z, z ∈ x :: y :: l → z % n = j := fun z hz => hLm j hjn z (by rw [hLj]; exact hz)
          refine AW.bud (bc' := (tSums (fun i => (L i).length) n - tSums (fun i => (L i).length) (j + 1)) + (x :: y :: l).length) (bs' := 4 * (tSums (fun i => (L i).length) n - tSums (fun i => (L i).length) (j + 1)) + 4 * (x :: y :: l).length) ?_ (by omega) (by omega)
          refine aw_ifnonnull_r (tgt := 198) dJ4_resize_177 (by decide) ?_
          first | refine aw_aload (q := 200) dJ4_resize_198 rfl rfl ?_ | refine aw_aloadN (q := 200) dJ4_resize_198 rfl rfl ?_ | refine aw_aloadQ (q := 200) dJ4_resize_198 rfl rfl ?_
          refine aw_instY (q := 203) dJ4_resize_200 q739 hx2 ca_15_J23 rfl ?_
          refine aw_if_eq (tgt := 223) (q := 206) dJ4_resize_203 (by decide) rfl (fun hZ => absurd hZ ((by decide))) (fun _ => ?_)
          first | refine aw_aload (q := 208) dJ4_resize_206 rfl rfl ?_ | refine aw_aloadN (q := 208) dJ4_resize_206 rfl rfl ?_ | refine aw_aloadQ (q := 208) dJ4_resize_206 rfl rfl ?_
          refine aw_cast (q := 211) dJ4_resize_208 q739 hx2 ca_15_J23 rfl ?_
          first | refine aw_aload_n (i := 0) (q := 212) dJ4_resize_211 rfl rfl rfl ?_ | refine aw_aloadN_n (i := 0) (q := 212) dJ4_resize_211 rfl rfl rfl ?_ | refine aw_aloadQ_n (i := 0) (q := 212) dJ4_resize_211 rfl rfl rfl ?_
          first | refine aw_aload (q := 214) dJ4_resize_212 rfl rfl ?_ | refine aw_aloadN (q := 214) dJ4_resize_212 rfl rfl ?_ | refine aw_aloadQ (q := 214) dJ4_resize_212 rfl rfl ?_
          refine aw_iload (q := 216) dJ4_resize_214 rfl rfl ?_
          refine aw_iload_n (i := 2) (q := 217) dJ4_resize_216 rfl rfl rfl ?_
          refine aw_callV (q := 220) dJ4_resize_217 (C_split (cap := cap) hm2 hn hk hjn hR hcap htn2 hf0 hfn hT2 hTr hc hnd rfl hmod hlen) cv_J4_211_15 (by assumption) rfl rfl (by decide) (by decide) (by first | exact Nat.le_of_ble_eq_true rfl | simp [zcat_rf, Value.category]) rfl (fun v217 μ3 hp => ?_)
          have hsp := hp
          obtain ⟨e0, ft', lo, hi, tlo, thi, s1, s2, s3, s4, s5, s6, s7⟩ := hsp
          subst e0
          refine aw_goto (tgt := 347) dJ4_resize_220 (by decide) ?_
          refine aw_locals ?_ (next μ3 ⟨ft', lo, hi, tlo, thi, s1, s2, s3, s4, s5, s6, fun q => by (cases q), s7⟩)
          exact ⟨rfl, rfl, rfl, rfl, rfl, rfl, trivial⟩
end ZRS
/-! the whole contract -/
theorem zNodLe : ∀ (l ks : List Nat), l.Nodup → (∀ x, x ∈ l → x ∈ ks) → l.length ≤ ks.length
  | [], _, _, _ => Nat.zero_le _
  | x :: l, ks, hn, h => by
    obtain ⟨h1, h2⟩ := List.nodup_cons.mp hn
    obtain ⟨a, b, e⟩ := List.append_of_mem (h x List.mem_cons_self)
    have := zNodLe l (a ++ b) h2 (fun y hy => by
      have hy2 := h y (List.mem_cons_of_mem _ hy)
      rw [e] at hy2
      rcases List.mem_append.mp hy2 with q | q
      · exact List.mem_append_left _ q
      · rcases List.mem_cons.mp q with q | q
        · exact absurd (q ▸ hy) h1
        · exact List.mem_append_right _ q)
    rw [e]
    simp only [List.length_append, List.length_cons] at this ⊢
    omega
def zCat (L : Nat → List Nat) : Nat → List Nat
  | 0 => []
  | n + 1 => zCat L n ++ L n
theorem zCat_len {L : Nat → List Nat} : ∀ n, (zCat L n).length = tSums (fun i => (L i).length) n
  | 0 => rfl
  | n + 1 => by
    show (zCat L n ++ L n).length = tSums _ n + (L n).length
    rw [List.length_append, zCat_len n]
theorem zCat_mem {L : Nat → List Nat} {x : Nat} : ∀ n, x ∈ zCat L n → ∃ i, i < n ∧ x ∈ L i
  | 0, h => absurd h List.not_mem_nil
  | n + 1, h => by
    rcases List.mem_append.mp h with q | q
    · obtain ⟨i, h1, h2⟩ := zCat_mem n q
      exact ⟨i, by omega, h2⟩
    · exact ⟨n, by omega, q⟩
theorem zCat_nodup {L : Nat → List Nat} {N : Nat} : ∀ n, (∀ i, i < n → (L i).Nodup ∧ ∀ x, x ∈ L i → x % N = i) → (zCat L n).Nodup
  | 0, _ => List.nodup_nil
  | n + 1, h => by
    refine List.nodup_append.mpr ⟨zCat_nodup n (fun i hi => h i (by omega)), (h n (by omega)).1, fun a ha b hb e => ?_⟩
    obtain ⟨i, h1, h2⟩ := zCat_mem n ha
    have e1 := (h i (by omega)).2 a h2
    have e2 := (h n (by omega)).2 b hb
    rw [e] at e1
    omega
theorem zCnt {L : Nat → List Nat} {n : Nat} {ks : List Nat} (h : ∀ i, i < n → (L i).Nodup ∧ ∀ x, x ∈ L i → x % n = i ∧ x ∈ ks) : tSums (fun i => (L i).length) n ≤ ks.length := by
  rw [← zCat_len]
  refine zNodLe _ _ (zCat_nodup (N := n) n (fun i hi => ⟨(h i hi).1, fun x hx => ((h i hi).2 x hx).1⟩)) (fun x hx => ?_)
  obtain ⟨i, h1, h2⟩ := zCat_mem n hx
  exact ((h i h1).2 x h2).2
theorem zBin.nodup {μ : zM} {R o cap : Nat} {ky vl : Nat → Nat} {tr : Bool} {f : Option Nat} {l : List Nat} (h : zBin μ R o cap ky vl tr f l) : l.Nodup := by
  obtain ⟨ν, nx, -, -, h3, -⟩ := h
  exact h3
section ZRT2
variable {G : zG} {μ : zM} {R o : Nat}
/-- the frame of what a map's method does -/
theorem zMt_m {R o : Nat} {c : Nat} : zMt R o c (hmT R o) := ⟨rfl, Nat.le_refl _, by show R < R + 8194; omega⟩
theorem zMt_b {R o : Nat} {c : Nat} : zMt R o c (hbT R o) := ⟨rfl, by show R ≤ R + 1; omega, by show R + 1 < R + 8194; omega⟩
theorem zMt_n {R o x : Nat} {c : Nat} (hx : x < 8192) : zMt R o c (hnT R o x) := ⟨rfl, by show R ≤ R + 2 + x; omega, by show R + 2 + x < R + 8194; omega⟩
theorem zCap_mono {k : Nat} : zCap k ≤ zCap (k + 1) ∧ 8 ≤ zCap k ∧ zCap k ≤ 10 := by
  unfold zCap
  split
  · split
    · omega
    · split <;> omega
  · split
    · split
      · omega
      · split <;> omega
    · split
      · omega
      · split <;> omega
set_option maxHeartbeats 4000000 in
theorem C_resizeT {m tb k cap sz : Nat} {es : Option Nat} {mc : Int32} {pl : Bool} {ks : List Nat} {val : Nat → Nat} (h : zHMt G μ R o m tb k cap es mc sz pl ks val) (hcap : cap ≤ zCap (k + 1)) (hk : k < 8) (hR : 1 ≤ R) : Meets G 6 MJ4_resize [.ref m] μ (fun v μ' => ∃ tn, v = some (.ref tn) ∧ zHMt G μ' R o m tn (k + 1) (zCap (k + 1)) es mc sz pl ks val ∧ zKp (zMt R o) μ μ') (1 + ks.length) (2 ^ (k + 1) + 4 * ks.length) := by
  obtain ⟨hm, ky, ft, L, tr, h2, h3, ⟨htb, hbin⟩, h5, h6, h7, h8⟩ := h
  have hmz : hmT R o ≠ zC := fun e => by have e1 : R = 0 := congrArg Prod.fst e; omega
  have htz : hbT R o ≠ zC := fun e => by have e1 : R + 1 = 0 := congrArg Prod.fst e; omega
  have hn256 : 2 ^ k ≤ 2 ^ 7 := Nat.pow_le_pow_right (by decide) (by omega)
  have hn2 : 2 ^ 1 ≤ 2 ^ k := Nat.pow_le_pow_right (by decide) h7
  have hpw : 2 ^ (k + 1) = 2 * 2 ^ k := by rw [Nat.pow_succ, Nat.mul_comm]
  have hth : zThB (k + 1) = true := zTh_all ⟨k + 1, by omega⟩ (by show 1 ≤ k + 1; omega)
  have h4d : ¬ 2 ^ k < 16 → 2 ^ k % 4 = 0 := by
    intro q
    have : 4 ≤ k := by
      refine Decidable.byContradiction (fun z => ?_)
      have : 2 ^ k ≤ 2 ^ 3 := Nat.pow_le_pow_right (by decide) (by omega)
      omega
    obtain ⟨j, rfl⟩ : ∃ j, k = j + 4 := ⟨k - 4, by omega⟩
    rw [Nat.pow_add]
    omega
  have hcnt : tSums (fun i => (L i).length) (2 ^ k) ≤ ks.length := zCnt (fun i hi => ⟨(hbin i hi).1.nodup, fun x hx => ⟨(hbin i hi).2 x hx, (h5 x).mpr (by rw [(hbin i hi).2 x hx]; exact hx)⟩⟩)
  have hll : ∀ i, i < 2 ^ k → (L i).length < 2 ^ 20 := by
    intro i hi
    have hb := (hbin i hi).1
    have h8k : ∀ x, x ∈ L i → x ∈ List.range 8192 := fun x hx => by
      obtain ⟨_, _, -, -, -, g⟩ := hb.node
      exact List.mem_range.mpr (g x hx).1
    have := zNodLe _ _ hb.nodup h8k
    rw [List.length_range] at this
    omega
  generalize hN : 2 ^ k = n at *
  try simp only [zrf_s] at hm
  rw [hpw]
  have hm0 := hm
  have tail : ∀ (thr' : Nat), thr' = 3 * (2 * n) / 4 → AW G 6 MJ4_resize (fun v μ' => ∃ tn, v = some (.ref tn) ∧ zHMt G μ' R o m tn (k + 1) (zCap (k + 1)) es mc sz pl ks val ∧ zKp (zMt R o) μ μ') (1 + ks.length) (2 * n + 4 * ks.length) 125 [(0, .ref m), (1, .ref tb), (2, .int (nI n)), (4, .int (nI (2 * n))), (5, .int (nI thr'))] [] μ := by
    intro thr' hthr
    refine AW.bud (bc' := (tSums (fun i => (L i).length) n) + 1) (bs' := 4 * (tSums (fun i => (L i).length) n) + 2 * n) ?_ (by omega) (by omega)
    first | refine aw_aload_n (i := 0) (q := 126) dJ4_resize_125 rfl rfl rfl ?_ | refine aw_aloadN_n (i := 0) (q := 126) dJ4_resize_125 rfl rfl rfl ?_ | refine aw_aloadQ_n (i := 0) (q := 126) dJ4_resize_125 rfl rfl rfl ?_
    refine aw_iload (q := 128) dJ4_resize_126 rfl rfl ?_
    refine aw_putfield (q := 131) dJ4_resize_128 gf_J4_88_19 hm (by first | assumption | simp) (by first | rfl | exact znar_rf _ _ | exact zB_nar _) (by first | rfl | exact zfit_rf _ _ | exact zB_fit _) (Nat.le_of_ble_eq_true rfl) rfl (fun μ1 hg_μ1 => ?_)
    have hm : μ1 _ = some _ := hg_μ1 ▸ updM_eq _ _ _
    simp only [List.set] at hm hg_μ1
    have hk1 : zKp (zMt R o) μ μ1 := by rw [hg_μ1]; exact zKp.put hm0 zMt_m
    have kk1 : zKp (fun _ u => u = hmT R o) μ μ1 := by rw [hg_μ1]; exact zKp.put hm0 rfl
    have htb1 : μ1 tb = some _ := hg_μ1 ▸ (updM_ne (zneq htb hm0 (by simp))).trans htb
    refine aw_iload (q := 133) dJ4_resize_131 rfl rfl ?_
    refine AW.sub (bc' := 1) (bs' := (2 * n)) (by omega) (by omega) ?_
    refine aw_newq (j := 5) (N := (2 * n)) (q := 136) dJ4_resize_133 q737 q738 rfl rfl (by omega) (hbT R o) (by first | assumption | simp) rfl (fun tn μ2 hn_tn hg_μ2 => ?_)
    have hm : μ2 _ = some _ := hg_μ2 ▸ (updM_ne (zneN hm hn_tn)).trans hm
    have htb1 : μ2 _ = some _ := hg_μ2 ▸ (updM_ne (zneN htb1 hn_tn)).trans htb1
    have h_tn : μ2 tn = some _ := hg_μ2 ▸ updM_eq _ _ _
    have hk2 : zKp (zMt R o) μ1 μ2 := by rw [hg_μ2]; exact zKp.new hn_tn
    have hm2 := hm
    have hmtn : tn ≠ m := zneq h_tn hm (by simp)
    have htbn : tb ≠ tn := zneN (by assumption) hn_tn
    first | refine aw_astore (q := 138) dJ4_resize_136 (by decide) rfl ?_ | refine aw_astoreN (q := 138) dJ4_resize_136 (by decide) rfl ?_ | refine aw_astoreQ (q := 138) dJ4_resize_136 (by decide) rfl ?_
    first | refine aw_aload_n (i := 0) (q := 139) dJ4_resize_138 rfl rfl rfl ?_ | refine aw_aloadN_n (i := 0) (q := 139) dJ4_resize_138 rfl rfl rfl ?_ | refine aw_aloadQ_n (i := 0) (q := 139) dJ4_resize_138 rfl rfl rfl ?_
    first | refine aw_aload (q := 141) dJ4_resize_139 rfl rfl ?_ | refine aw_aloadN (q := 141) dJ4_resize_139 rfl rfl ?_ | refine aw_aloadQ (q := 141) dJ4_resize_139 rfl rfl ?_
    refine aw_putfield (q := 144) dJ4_resize_141 gf_J4_105_19 hm (by first | assumption | simp) (by first | rfl | exact znar_rf _ _ | exact zB_nar _) (by first | rfl | exact zfit_rf _ _ | exact zB_fit _) (Nat.le_of_ble_eq_true rfl) rfl (fun μ3 hg_μ3 => ?_)
    have htb1 : μ3 _ = some _ := hg_μ3 ▸ (updM_ne (zneq htb1 hm2 (by simp))).trans htb1
    have h_tn : μ3 _ = some _ := hg_μ3 ▸ (updM_ne hmtn).trans h_tn
    have hm : μ3 _ = some _ := hg_μ3 ▸ updM_eq _ _ _
    simp only [List.set] at hm hg_μ3
    have hk3 : zKp (zMt R o) μ2 μ3 := by rw [hg_μ3]; exact zKp.put hm2 zMt_m
    have kk2 : zKp (fun _ u => u = hmT R o) μ1 μ2 := by rw [hg_μ2]; exact zKp.new hn_tn
    have kk3 : zKp (fun _ u => u = hmT R o) μ μ3 := (kk1.tr kk2).tr (by rw [hg_μ3]; exact zKp.put hm2 rfl)
    first | refine aw_aload_n (i := 1) (q := 145) dJ4_resize_144 rfl rfl rfl ?_ | refine aw_aloadN_n (i := 1) (q := 145) dJ4_resize_144 rfl rfl rfl ?_ | refine aw_aloadQ_n (i := 1) (q := 145) dJ4_resize_144 rfl rfl rfl ?_
    refine aw_ifnull_r (q := 148) dJ4_resize_145 rfl ?_
    refine aw_iconst (v := 0) (q := 149) dJ4_resize_148 rfl rfl ?_
    refine aw_istore (q := 151) dJ4_resize_149 (by decide) rfl ?_
    try simp (config := {decide := true}) only [zput, zdel_q, zdel_f, zdel_t, zdel_nil, zdel_r, zdel_i, zdel_n]
    have hb3 : ∀ i, i < n → zBin μ3 R o cap ky (zVl G val) (tr i) (ft i) (L i) := by
      intro i hi
      exact (hbin i hi).1.kp kk3 (fun x c hx q => zTm_ne q)
    have hz0 : tSums (fun i => (L i).length) 0 = 0 := rfl
    have hnew : ∀ i, i < 2 * n → (i % n < 0 → zBin μ3 R o (zCap (k + 1)) ky (zVl G val) false none [] ∧ (∀ x, x ∈ ([] : List Nat) ↔ x ∈ L (i % n) ∧ x % (2 * n) = i) ∧ (tr (i % n) = false → false = false)) ∧ (0 ≤ i % n → (none : Option Nat) = none) := fun i hi => ⟨fun q => absurd q (Nat.not_lt_zero _), fun _ => rfl⟩
    refine AW.bud (aw_locals ?_ (rsz_loop (cap := zCap (k + 1)) (μ0 := μ3) hN hk hR hcap (by have := (zCap_mono (k := k + 1)).2.1; omega) (fun i hi => (hbin i hi).2) hll htbn ?_ n 0 (by omega) μ3 ft (fun _ => none) (fun _ => []) (fun _ => false) hm htb1 (fun _ _ _ => rfl) h_tn (fun i _ hi => hb3 i hi) hnew zKp.rf)) (by omega) (by omega)
    · exact ⟨rfl, rfl, rfl, rfl, rfl, rfl, trivial⟩
    · rintro v μ' ⟨rfl, ftn, L', tr', g1, g2, g3, g4⟩
      have hk4 : zKp (zMt R o) μ3 μ' := g4.mono (fun c u q => q.elim (fun q => q ▸ zMt_b) (fun ⟨h, h1, q⟩ => q ▸ zMt_n h1))
      have hkk := ((hk1.tr hk2).tr hk3).tr hk4
      refine ⟨tn, rfl, ⟨?_, ky, ftn, L', tr', h2, ?_, ?_, ?_, ?_, by omega, by omega⟩, hkk⟩
      · have := g4 _ _ _ hm (fun q => q.elim (fun q => zTbm_ne q.symm) (fun ⟨h, _, q⟩ => zTm_ne q.symm))
        rw [hpw, ← hthr]
        exact this
      · exact fun x hx => hkk _ _ _ (h3 x hx) (fun q => by have e1 : R ≤ 0 := q.2.1; omega)
      · rw [hpw]; exact g1
      · intro x
        rw [hpw, g2 _ (Nat.mod_lt _ (by omega)) x, h5 x, show x % (2 * n) % n = x % n from Nat.mod_mul_left_mod x 2 n]
        exact ⟨fun q => ⟨q, rfl⟩, fun q => q.1⟩
      · intro hp i hi
        rw [hpw] at hi
        exact g3 i hi (h6 hp _ (Nat.mod_lt _ (by omega)))
  have esh : nI n <<< ((1 : Int32) &&& 31) = nI (2 * n) := by
    rw [pk_shlN (1 &&& 31) 1 (by decide) (by omega), Nat.pow_one, Nat.mul_comm]
  refine meets_of (by decide +kernel) (Nat.le_of_ble_eq_true rfl) ?_
  first | refine aw_aload_n (i := 0) (q := 1) dJ4_resize_0 rfl rfl rfl ?_ | refine aw_aloadN_n (i := 0) (q := 1) dJ4_resize_0 rfl rfl rfl ?_ | refine aw_aloadQ_n (i := 0) (q := 1) dJ4_resize_0 rfl rfl rfl ?_
  refine aw_getfield (q := 4) dJ4_resize_1 gf_J4_105_19 (by assumption) rfl rfl ?_
  first | refine aw_astore_n (i := 1) (q := 5) dJ4_resize_4 rfl (by decide) rfl ?_ | refine aw_astoreN_n (i := 1) (q := 5) dJ4_resize_4 rfl (by decide) rfl ?_ | refine aw_astoreQ_n (i := 1) (q := 5) dJ4_resize_4 rfl (by decide) rfl ?_
  first | refine aw_aload_n (i := 1) (q := 6) dJ4_resize_5 rfl rfl rfl ?_ | refine aw_aloadN_n (i := 1) (q := 6) dJ4_resize_5 rfl rfl rfl ?_ | refine aw_aloadQ_n (i := 1) (q := 6) dJ4_resize_5 rfl rfl rfl ?_
  refine aw_ifnonnull_r (tgt := 13) dJ4_resize_6 (by decide) ?_
  first | refine aw_aload_n (i := 1) (q := 14) dJ4_resize_13 rfl rfl rfl ?_ | refine aw_aloadN_n (i := 1) (q := 14) dJ4_resize_13 rfl rfl rfl ?_ | refine aw_aloadQ_n (i := 1) (q := 14) dJ4_resize_13 rfl rfl rfl ?_
  first | refine aw_alenI (q := 15) dJ4_resize_14 (by assumption) rfl ?_ | refine aw_alenO (q := 15) dJ4_resize_14 (by assumption) rfl ?_ | refine aw_alenN (q := 15) dJ4_resize_14 (by assumption) rfl ?_ | refine aw_alenB (q := 15) dJ4_resize_14 (by assumption) rfl ?_ | refine aw_alenP (q := 15) dJ4_resize_14 (by assumption) rfl ?_
  refine aw_istore_n (i := 2) (q := 16) dJ4_resize_15 rfl (by decide) rfl ?_
  try simp (config := {decide := true}) only [zput, zdel_q, zdel_f, zdel_t, zdel_nil, zdel_r, zdel_i, zdel_n]
  first | refine aw_aload_n (i := 0) (q := 17) dJ4_resize_16 rfl rfl rfl ?_ | refine aw_aloadN_n (i := 0) (q := 17) dJ4_resize_16 rfl rfl rfl ?_ | refine aw_aloadQ_n (i := 0) (q := 17) dJ4_resize_16 rfl rfl rfl ?_
  refine aw_getfield (q := 20) dJ4_resize_17 gf_J4_88_19 (by assumption) rfl rfl ?_
  refine aw_istore_n (i := 3) (q := 21) dJ4_resize_20 rfl (by decide) rfl ?_
  refine aw_iconst (v := 0) (q := 22) dJ4_resize_21 rfl rfl ?_
  refine aw_istore (q := 24) dJ4_resize_22 (by decide) rfl ?_
  refine aw_iload_n (i := 2) (q := 25) dJ4_resize_24 rfl rfl rfl ?_
  refine aw_if_le (tgt := 67) (q := 28) dJ4_resize_25 (by decide) rfl (fun hZ => absurd hZ (nI_nle (by omega) (by omega))) (fun _ => ?_)
  refine aw_iload_n (i := 2) (q := 29) dJ4_resize_28 rfl rfl rfl ?_
  refine aw_ldc (q := 31) dJ4_resize_29 q723 rfl ?_
  refine aw_icmp_lt (tgt := 42) (q := 34) dJ4_resize_31 (by decide) rfl (fun _ => ?_) (fun hZ => absurd (nI_lt (b := 1073741824) (by omega) (by decide)) hZ)
  refine aw_iload_n (i := 2) (q := 43) dJ4_resize_42 rfl rfl rfl ?_
  refine aw_iconst (v := 1) (q := 44) dJ4_resize_43 rfl rfl ?_
  refine aw_ishl (q := 45) dJ4_resize_44 rfl ?_
  refine aw_dup (q := 46) dJ4_resize_45 (by first | rfl | exact zcat_rf _) rfl ?_
  refine aw_istore (q := 48) dJ4_resize_46 (by decide) rfl ?_
  refine aw_ldc (q := 50) dJ4_resize_48 q723 rfl ?_
  rw [esh]
  refine aw_icmp_ge (tgt := 85) (q := 53) dJ4_resize_50 (by decide) rfl (fun hZ => absurd hZ ((Int32.not_le.mpr (nI_lt (b := 1073741824) (by omega) (by decide))))) (fun _ => ?_)
  refine aw_iload_n (i := 2) (q := 54) dJ4_resize_53 rfl rfl rfl ?_
  refine aw_bipush (v := 16) (q := 56) dJ4_resize_54 rfl rfl ?_
  by_cases h4 : n < 16
  · refine aw_icmp_lt (tgt := 85) (q := 59) dJ4_resize_56 (by decide) rfl (fun _ => ?_) (fun hZ => absurd (nI_lt (b := 16) h4 (by decide)) hZ)
    refine aw_iload (q := 87) dJ4_resize_85 rfl rfl ?_
    simp only [zThB, Bool.and_eq_true, decide_eq_true_eq, hpw] at hth
    obtain ⟨t1, t2, t3⟩ := hth
    refine aw_if_ne (tgt := 125) (q := 90) dJ4_resize_87 (by decide) rfl (fun hZ => absurd (rfl) hZ) (fun _ => ?_)
    refine aw_iload (q := 92) dJ4_resize_90 rfl rfl ?_
    refine aw_i2f (q := 93) dJ4_resize_92 rfl ?_
    first | refine aw_aload_n (i := 0) (q := 94) dJ4_resize_93 rfl rfl rfl ?_ | refine aw_aloadN_n (i := 0) (q := 94) dJ4_resize_93 rfl rfl rfl ?_ | refine aw_aloadQ_n (i := 0) (q := 94) dJ4_resize_93 rfl rfl rfl ?_
    refine aw_getfield (q := 97) dJ4_resize_94 gf_J4_81_19 (by assumption) rfl rfl ?_
    refine aw_fmul (q := 98) dJ4_resize_97 (zN32.ok t1) rfl ?_
    refine aw_fstore (q := 100) dJ4_resize_98 (by decide) rfl ?_
    refine aw_iload (q := 102) dJ4_resize_100 rfl rfl ?_
    refine aw_ldc (q := 104) dJ4_resize_102 q723 rfl ?_
    refine aw_icmp_ge (tgt := 121) (q := 107) dJ4_resize_104 (by decide) rfl (fun hZ => absurd hZ ((Int32.not_le.mpr (nI_lt (b := 1073741824) (by omega) (by decide))))) (fun _ => ?_)
    refine aw_fload (q := 109) dJ4_resize_107 rfl rfl ?_
    refine aw_ldcf (q := 111) dJ4_resize_109 q736 rfl ?_
    refine aw_fcmp (q := 112) dJ4_resize_111 rfl ?_
    refine aw_if_ge (tgt := 121) (q := 115) dJ4_resize_112 (by decide) rfl (fun hZ => absurd hZ ((Int32.not_le.mpr t2))) (fun _ => ?_)
    refine aw_fload (q := 117) dJ4_resize_115 rfl rfl ?_
    refine aw_f2i (q := 118) dJ4_resize_117 rfl ?_
    rw [t3]
    refine aw_goto (tgt := 123) dJ4_resize_118 (by decide) ?_
    refine aw_istore (q := 125) dJ4_resize_123 (by decide) rfl ?_
    exact AW.bud (aw_locals (by exact ⟨rfl, rfl, rfl, rfl, rfl, trivial⟩) (tail _ rfl)) (by omega) (by omega)
  · have e3 : 3 * n / 4 * 2 ^ 1 = 3 * (2 * n) / 4 := by
      have := h4d h4
      omega
    have esh2 : nI (3 * n / 4) <<< ((1 : Int32) &&& 31) = nI (3 * (2 * n) / 4) := by
      rw [pk_shlN (1 &&& 31) 1 (by decide) (by omega), e3]
    refine aw_icmp_lt (tgt := 85) (q := 59) dJ4_resize_56 (by decide) rfl (fun hZ => absurd hZ (nI_nlt (b := 16) (by omega) (by omega))) (fun _ => ?_)
    refine aw_iload_n (i := 3) (q := 60) dJ4_resize_59 rfl rfl rfl ?_
    refine aw_iconst (v := 1) (q := 61) dJ4_resize_60 rfl rfl ?_
    refine aw_ishl (q := 62) dJ4_resize_61 rfl ?_
    refine aw_istore (q := 64) dJ4_resize_62 (by decide) rfl ?_
    refine aw_goto (tgt := 85) dJ4_resize_64 (by decide) ?_
    refine aw_iload (q := 87) dJ4_resize_85 rfl rfl ?_
    rw [esh2]
    refine aw_if_ne (tgt := 125) (q := 90) dJ4_resize_87 (by decide) rfl (fun _ => ?_) (fun hZ => absurd hZ (nI_ne0 (by omega) (by omega)))
    exact AW.bud (aw_locals (by exact ⟨rfl, rfl, rfl, rfl, rfl, trivial⟩) (tail _ rfl)) (by omega) (by omega)
set_option maxHeartbeats 4000000 in
/-- .. of a map without a table -/
theorem C_resize0 {m thr : Nat} {es : Option Nat} {mc : Int32} {pl : Bool} {val : Nat → Nat} (h : zHM0 μ R o m es mc thr) (hR : 1 ≤ R) : ∃ k, 1 ≤ k ∧ k ≤ 8 ∧ (thr = 0 → k = 4) ∧ (thr ≠ 0 → thr = 2 ^ k) ∧ Meets G 6 MJ4_resize [.ref m] μ (fun v μ' => ∃ tn, v = some (.ref tn) ∧ zHMt G μ' R o m tn k (zCap k) es mc 0 pl [] val ∧ zKp (zMt R o) μ μ') 1 (2 ^ k) := by
  obtain ⟨hm, hthr⟩ := h
  have hmz : hmT R o ≠ zC := fun e => by have e1 : R = 0 := congrArg Prod.fst e; omega
  have htz : hbT R o ≠ zC := fun e => by have e1 : R + 1 = 0 := congrArg Prod.fst e; omega
  try simp only [zrf_n] at hm
  have hm0 := hm
  have tail : ∀ k, 1 ≤ k → k ≤ 8 → AW G 6 MJ4_resize (fun v μ' => ∃ tn, v = some (.ref tn) ∧ zHMt G μ' R o m tn k (zCap k) es mc 0 pl [] val ∧ zKp (zMt R o) μ μ') 1 (2 ^ k) 125 [(0, .ref m), (1, .null), (4, .int (nI (2 ^ k))), (5, .int (nI (3 * 2 ^ k / 4)))] [] μ := by
    intro k k1 k8
    have hn256 : 2 ^ k ≤ 2 ^ 8 := Nat.pow_le_pow_right (by decide) k8
    generalize hN : 2 ^ k = n at *
    refine AW.bud (bc' := 0 + 1) (bs' := 0 + n) ?_ (by omega) (by omega)
    first | refine aw_aload_n (i := 0) (q := 126) dJ4_resize_125 rfl rfl rfl ?_ | refine aw_aloadN_n (i := 0) (q := 126) dJ4_resize_125 rfl rfl rfl ?_ | refine aw_aloadQ_n (i := 0) (q := 126) dJ4_resize_125 rfl rfl rfl ?_
    refine aw_iload (q := 128) dJ4_resize_126 rfl rfl ?_
    refine aw_putfield (q := 131) dJ4_resize_128 gf_J4_88_19 hm (by first | assumption | simp) (by first | rfl | exact znar_rf _ _ | exact zB_nar _) (by first | rfl | exact zfit_rf _ _ | exact zB_fit _) (Nat.le_of_ble_eq_true rfl) rfl (fun μ1 hg_μ1 => ?_)
    have hm : μ1 _ = some _ := hg_μ1 ▸ updM_eq _ _ _
    simp only [List.set] at hm hg_μ1
    have hk1 : zKp (zMt R o) μ μ1 := by rw [hg_μ1]; exact zKp.put hm0 zMt_m
    refine aw_iload (q := 133) dJ4_resize_131 rfl rfl ?_
    refine AW.sub (bc' := 1) (bs' := n) (by omega) (by omega) ?_
    refine aw_newq (j := 5) (N := n) (q := 136) dJ4_resize_133 q737 q738 rfl rfl (by omega) (hbT R o) (by first | assumption | simp) rfl (fun tn μ2 hn_tn hg_μ2 => ?_)
    have hm : μ2 _ = some _ := hg_μ2 ▸ (updM_ne (zneN hm hn_tn)).trans hm
    have h_tn : μ2 tn = some _ := hg_μ2 ▸ updM_eq _ _ _
    have hk2 : zKp (zMt R o) μ1 μ2 := by rw [hg_μ2]; exact zKp.new hn_tn
    have hm2 := hm
    have hmtn : tn ≠ m := zneq h_tn hm (by simp)
    first | refine aw_astore (q := 138) dJ4_resize_136 (by decide) rfl ?_ | refine aw_astoreN (q := 138) dJ4_resize_136 (by decide) rfl ?_ | refine aw_astoreQ (q := 138) dJ4_resize_136 (by decide) rfl ?_
    first | refine aw_aload_n (i := 0) (q := 139) dJ4_resize_138 rfl rfl rfl ?_ | refine aw_aloadN_n (i := 0) (q := 139) dJ4_resize_138 rfl rfl rfl ?_ | refine aw_aloadQ_n (i := 0) (q := 139) dJ4_resize_138 rfl rfl rfl ?_
    first | refine aw_aload (q := 141) dJ4_resize_139 rfl rfl ?_ | refine aw_aloadN (q := 141) dJ4_resize_139 rfl rfl ?_ | refine aw_aloadQ (q := 141) dJ4_resize_139 rfl rfl ?_
    refine aw_putfield (q := 144) dJ4_resize_141 gf_J4_105_19 hm (by first | assumption | simp) (by first | rfl | exact znar_rf _ _ | exact zB_nar _) (by first | rfl | exact zfit_rf _ _ | exact zB_fit _) (Nat.le_of_ble_eq_true rfl) rfl (fun μ3 hg_μ3 => ?_)
    have h_tn : μ3 _ = some _ := hg_μ3 ▸ (updM_ne hmtn).trans h_tn
    have hm : μ3 _ = some _ := hg_μ3 ▸ updM_eq _ _ _
    simp only [List.set] at hm hg_μ3
    have hk3 : zKp (zMt R o) μ2 μ3 := by rw [hg_μ3]; exact zKp.put hm2 zMt_m
    first | refine aw_aload_n (i := 1) (q := 145) dJ4_resize_144 rfl rfl rfl ?_ | refine aw_aloadN_n (i := 1) (q := 145) dJ4_resize_144 rfl rfl rfl ?_ | refine aw_aloadQ_n (i := 1) (q := 145) dJ4_resize_144 rfl rfl rfl ?_
    refine aw_ifnull_n (tgt := 353) dJ4_resize_145 (by decide) ?_
    first | refine aw_aload (q := 355) dJ4_resize_353 rfl rfl ?_ | refine aw_aloadN (q := 355) dJ4_resize_353 rfl rfl ?_ | refine aw_aloadQ (q := 355) dJ4_resize_353 rfl rfl ?_
    exact aw_areturnR dJ4_resize_355 rfl (by first | exact Or.inl ⟨_, rfl⟩ | exact Or.inr ⟨_, rfl⟩) (⟨tn, rfl, ⟨by rw [hN]; exact hm, fun _ => 0, fun _ => none, fun _ => [], fun _ => false, List.nodup_nil, fun x hx => absurd hx List.not_mem_nil, ⟨by rw [hN]; exact h_tn, fun i _ => ⟨zBin.nil, fun x hx => absurd hx List.not_mem_nil⟩⟩, fun x => Iff.rfl, fun _ _ _ => rfl, k1, k8⟩, (hk1.tr hk2).tr hk3⟩)
  rcases hthr with rfl | ⟨k, k1, k8, rfl⟩
  · refine ⟨4, by omega, by omega, fun _ => rfl, fun q => absurd rfl q, ?_⟩
    refine meets_of (by decide +kernel) (Nat.le_of_ble_eq_true rfl) ?_
    first | refine aw_aload_n (i := 0) (q := 1) dJ4_resize_0 rfl rfl rfl ?_ | refine aw_aloadN_n (i := 0) (q := 1) dJ4_resize_0 rfl rfl rfl ?_ | refine aw_aloadQ_n (i := 0) (q := 1) dJ4_resize_0 rfl rfl rfl ?_
    refine aw_getfield (q := 4) dJ4_resize_1 gf_J4_105_19 (by assumption) rfl rfl ?_
    first | refine aw_astore_n (i := 1) (q := 5) dJ4_resize_4 rfl (by decide) rfl ?_ | refine aw_astoreN_n (i := 1) (q := 5) dJ4_resize_4 rfl (by decide) rfl ?_ | refine aw_astoreQ_n (i := 1) (q := 5) dJ4_resize_4 rfl (by decide) rfl ?_
    first | refine aw_aload_n (i := 1) (q := 6) dJ4_resize_5 rfl rfl rfl ?_ | refine aw_aloadN_n (i := 1) (q := 6) dJ4_resize_5 rfl rfl rfl ?_ | refine aw_aloadQ_n (i := 1) (q := 6) dJ4_resize_5 rfl rfl rfl ?_
    refine aw_ifnonnull_n (q := 9) dJ4_resize_6 rfl ?_
    refine aw_iconst (v := 0) (q := 10) dJ4_resize_9 rfl rfl ?_
    refine aw_goto (tgt := 15) dJ4_resize_10 (by decide) ?_
    refine aw_istore_n (i := 2) (q := 16) dJ4_resize_15 rfl (by decide) rfl ?_
    try simp (config := {decide := true}) only [zput, zdel_q, zdel_f, zdel_t, zdel_nil, zdel_r, zdel_i, zdel_n]
    first | refine aw_aload_n (i := 0) (q := 17) dJ4_resize_16 rfl rfl rfl ?_ | refine aw_aloadN_n (i := 0) (q := 17) dJ4_resize_16 rfl rfl rfl ?_ | refine aw_aloadQ_n (i := 0) (q := 17) dJ4_resize_16 rfl rfl rfl ?_
    refine aw_getfield (q := 20) dJ4_resize_17 gf_J4_88_19 (by assumption) rfl rfl ?_
    refine aw_istore_n (i := 3) (q := 21) dJ4_resize_20 rfl (by decide) rfl ?_
    refine aw_iconst (v := 0) (q := 22) dJ4_resize_21 rfl rfl ?_
    refine aw_istore (q := 24) dJ4_resize_22 (by decide) rfl ?_
    refine aw_iload_n (i := 2) (q := 25) dJ4_resize_24 rfl rfl rfl ?_
    refine aw_if_le (tgt := 67) (q := 28) dJ4_resize_25 (by decide) rfl (fun _ => ?_) (fun hZ => absurd ((by decide)) hZ)
    refine aw_iload_n (i := 3) (q := 68) dJ4_resize_67 rfl rfl rfl ?_
    refine aw_if_le (tgt := 77) (q := 71) dJ4_resize_68 (by decide) rfl (fun _ => ?_) (fun hZ => absurd ((by decide)) hZ)
    refine aw_bipush (v := 16) (q := 79) dJ4_resize_77 rfl rfl ?_
    refine aw_istore (q := 81) dJ4_resize_79 (by decide) rfl ?_
    refine aw_bipush (v := 12) (q := 83) dJ4_resize_81 rfl rfl ?_
    refine aw_istore (q := 85) dJ4_resize_83 (by decide) rfl ?_
    refine aw_iload (q := 87) dJ4_resize_85 rfl rfl ?_
    refine aw_if_ne (tgt := 125) (q := 90) dJ4_resize_87 (by decide) rfl (fun _ => ?_) (fun hZ => absurd hZ ((by decide)))
    exact AW.bud (aw_locals (by exact ⟨rfl, rfl, rfl, rfl, trivial⟩) (tail 4 (by omega) (by omega))) (by omega) (by omega)
  · have hn256 : 2 ^ k ≤ 2 ^ 8 := Nat.pow_le_pow_right (by decide) k8
    have hn0 : 0 < 2 ^ k := Nat.two_pow_pos k
    have hth : zThB k = true := zTh_all ⟨k, by omega⟩ k1
    refine ⟨k, k1, k8, fun q => by omega, fun _ => rfl, ?_⟩
    refine meets_of (by decide +kernel) (Nat.le_of_ble_eq_true rfl) ?_
    first | refine aw_aload_n (i := 0) (q := 1) dJ4_resize_0 rfl rfl rfl ?_ | refine aw_aloadN_n (i := 0) (q := 1) dJ4_resize_0 rfl rfl rfl ?_ | refine aw_aloadQ_n (i := 0) (q := 1) dJ4_resize_0 rfl rfl rfl ?_
    refine aw_getfield (q := 4) dJ4_resize_1 gf_J4_105_19 (by assumption) rfl rfl ?_
    first | refine aw_astore_n (i := 1) (q := 5) dJ4_resize_4 rfl (by decide) rfl ?_ | refine aw_astoreN_n (i := 1) (q := 5) dJ4_resize_4 rfl (by decide) rfl ?_ | refine aw_astoreQ_n (i := 1) (q := 5) dJ4_resize_4 rfl (by decide) rfl ?_
    first | refine aw_aload_n (i := 1) (q := 6) dJ4_resize_5 rfl rfl rfl ?_ | refine aw_aloadN_n (i := 1) (q := 6) dJ4_resize_5 rfl rfl rfl ?_ | refine aw_aloadQ_n (i := 1) (q := 6) dJ4_resize_5 rfl rfl rfl ?_
    refine aw_ifnonnull_n (q := 9) dJ4_resize_6 rfl ?_
    refine aw_iconst (v := 0) (q := 10) dJ4_resize_9 rfl rfl ?_
    refine aw_goto (tgt := 15) dJ4_resize_10 (by decide) ?_
    refine aw_istore_n (i := 2) (q := 16) dJ4_resize_15 rfl (by decide) rfl ?_
    try simp (config := {decide := true}) only [zput, zdel_q, zdel_f, zdel_t, zdel_nil, zdel_r, zdel_i, zdel_n]
    first | refine aw_aload_n (i := 0) (q := 17) dJ4_resize_16 rfl rfl rfl ?_ | refine aw_aloadN_n (i := 0) (q := 17) dJ4_resize_16 rfl rfl rfl ?_ | refine aw_aloadQ_n (i := 0) (q := 17) dJ4_resize_16 rfl rfl rfl ?_
    refine aw_getfield (q := 20) dJ4_resize_17 gf_J4_88_19 (by assumption) rfl rfl ?_
    refine aw_istore_n (i := 3) (q := 21) dJ4_resize_20 rfl (by decide) rfl ?_
    refine aw_iconst (v := 0) (q := 22) dJ4_resize_21 rfl rfl ?_
    refine aw_istore (q := 24) dJ4_resize_22 (by decide) rfl ?_
    refine aw_iload_n (i := 2) (q := 25) dJ4_resize_24 rfl rfl rfl ?_
    refine aw_if_le (tgt := 67) (q := 28) dJ4_resize_25 (by decide) rfl (fun _ => ?_) (fun hZ => absurd ((by decide)) hZ)
    refine aw_iload_n (i := 3) (q := 68) dJ4_resize_67 rfl rfl rfl ?_
    refine aw_if_le (tgt := 77) (q := 71) dJ4_resize_68 (by decide) rfl (fun hZ => absurd hZ (nI_nle hn0 (by omega))) (fun _ => ?_)
    refine aw_iload_n (i := 3) (q := 72) dJ4_resize_71 rfl rfl rfl ?_
    refine aw_istore (q := 74) dJ4_resize_72 (by decide) rfl ?_
    refine aw_goto (tgt := 85) dJ4_resize_74 (by decide) ?_
    refine aw_iload (q := 87) dJ4_resize_85 rfl rfl ?_
    simp only [zThB, Bool.and_eq_true, decide_eq_true_eq] at hth
    obtain ⟨t1, t2, t3⟩ := hth
    refine aw_if_ne (tgt := 125) (q := 90) dJ4_resize_87 (by decide) rfl (fun hZ => absurd (rfl) hZ) (fun _ => ?_)
    refine aw_iload (q := 92) dJ4_resize_90 rfl rfl ?_
    refine aw_i2f (q := 93) dJ4_resize_92 rfl ?_
    first | refine aw_aload_n (i := 0) (q := 94) dJ4_resize_93 rfl rfl rfl ?_ | refine aw_aloadN_n (i := 0) (q := 94) dJ4_resize_93 rfl rfl rfl ?_ | refine aw_aloadQ_n (i := 0) (q := 94) dJ4_resize_93 rfl rfl rfl ?_
    refine aw_getfield (q := 97) dJ4_resize_94 gf_J4_81_19 (by assumption) rfl rfl ?_
    refine aw_fmul (q := 98) dJ4_resize_97 (zN32.ok t1) rfl ?_
    refine aw_fstore (q := 100) dJ4_resize_98 (by decide) rfl ?_
    refine aw_iload (q := 102) dJ4_resize_100 rfl rfl ?_
    refine aw_ldc (q := 104) dJ4_resize_102 q723 rfl ?_
    refine aw_icmp_ge (tgt := 121) (q := 107) dJ4_resize_104 (by decide) rfl (fun hZ => absurd hZ ((Int32.not_le.mpr (nI_lt (b := 1073741824) (by omega) (by decide))))) (fun _ => ?_)
    refine aw_fload (q := 109) dJ4_resize_107 rfl rfl ?_
    refine aw_ldcf (q := 111) dJ4_resize_109 q736 rfl ?_
    refine aw_fcmp (q := 112) dJ4_resize_111 rfl ?_
    refine aw_if_ge (tgt := 121) (q := 115) dJ4_resize_112 (by decide) rfl (fun hZ => absurd hZ ((Int32.not_le.mpr t2))) (fun _ => ?_)
    refine aw_fload (q := 117) dJ4_resize_115 rfl rfl ?_
    refine aw_f2i (q := 118) dJ4_resize_117 rfl ?_
    rw [t3]
    refine aw_goto (tgt := 123) dJ4_resize_118 (by decide) ?_
    refine aw_istore (q := 125) dJ4_resize_123 (by decide) rfl ?_
    exact AW.bud (aw_locals (by exact ⟨rfl, rfl, rfl, rfl, trivial⟩) (tail k k1 k8)) (by omega) (by omega)
end ZRT2
