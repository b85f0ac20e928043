/-! HASH MAPS: remove, of a plain map; init, size -/
set_option maxRecDepth 100000
def zDel (h : Nat) : List Nat → List Nat
  | [] => []
  | x :: l => if x = h then l else x :: zDel h l
theorem zDel_mem {h x : Nat} : ∀ {l : List Nat}, l.Nodup → (x ∈ zDel h l ↔ x ∈ l ∧ x ≠ h)
  | [], _ => ⟨fun q => absurd q List.not_mem_nil, fun q => q.1⟩
  | y :: l, hn => by
    obtain ⟨h1, h2⟩ := List.nodup_cons.mp hn
    unfold zDel
    by_cases e : y = h
    · rw [if_pos e]
      subst e
      exact ⟨fun q => ⟨List.mem_cons_of_mem _ q, fun z => h1 (z ▸ q)⟩, fun q => (List.mem_cons.mp q.1).resolve_left q.2⟩
    · rw [if_neg e, List.mem_cons, List.mem_cons, zDel_mem h2]
      constructor
      · rintro (q | q)
        · exact ⟨Or.inl q, q ▸ e⟩
        · exact ⟨Or.inr q.1, q.2⟩
      · rintro ⟨q | q, z⟩
        · exact Or.inl q
        · exact Or.inr ⟨q, z⟩
theorem zDel_nodup {h : Nat} : ∀ {l : List Nat}, l.Nodup → (zDel h l).Nodup
  | [], _ => List.nodup_nil
  | y :: l, hn => by
    obtain ⟨h1, h2⟩ := List.nodup_cons.mp hn
    unfold zDel
    by_cases e : y = h
    · rw [if_pos e]; exact h2
    · rw [if_neg e]
      exact List.nodup_cons.mpr ⟨fun q => h1 ((zDel_mem h2).mp q).1, zDel_nodup h2⟩
theorem zDel_len {h : Nat} : ∀ {l : List Nat}, h ∈ l → (zDel h l).length + 1 = l.length
  | [], hm => absurd hm List.not_mem_nil
  | y :: l, hm => by
    unfold zDel
    by_cases e : y = h
    · rw [if_pos e]; rfl
    · rw [if_neg e]
      have := zDel_len ((List.mem_cons.mp hm).resolve_left (fun q => e q.symm))
      simp only [List.length_cons]
      omega
theorem zDel_none {h : Nat} : ∀ {l : List Nat}, h ∉ l → zDel h l = l
  | [], _ => rfl
  | y :: l, hm => by
    unfold zDel
    rw [if_neg (fun (q : y = h) => hm (by rw [q]; exact List.mem_cons_self)), zDel_none (fun q => hm (List.mem_cons_of_mem _ q))]
theorem zMemD {h y : Nat} {l1 l2 : List Nat} (hn : (l1 ++ h :: l2).Nodup) : y ∈ l1 ++ l2 ↔ y ∈ l1 ++ h :: l2 ∧ y ≠ h := by
  obtain ⟨n1, n2, n3⟩ := List.nodup_append.mp hn
  obtain ⟨n4, n5⟩ := List.nodup_cons.mp n2
  simp only [List.mem_append, List.mem_cons]
  constructor
  · rintro (q | q)
    · exact ⟨Or.inl q, fun e => n3 y q h List.mem_cons_self e⟩
    · exact ⟨Or.inr (Or.inr q), fun e => n4 (e ▸ q)⟩
  · rintro ⟨q | q | q, z⟩
    · exact Or.inl q
    · exact absurd q z
    · exact Or.inr q
theorem zNodD {h : Nat} {l1 l2 : List Nat} (hn : (l1 ++ h :: l2).Nodup) : (l1 ++ l2).Nodup := by
  obtain ⟨n1, n2, n3⟩ := List.nodup_append.mp hn
  exact List.nodup_append.mpr ⟨n1, (List.nodup_cons.mp n2).2, fun a ha b hb => n3 a ha b (List.mem_cons_of_mem _ hb)⟩
section ZRM
variable {G : zG} {μ : zM} {R o : Nat}
theorem C_J3_init {a : Nat} : Meets G 2 MJ3_init [.ref a] μ (zVoid μ) 0 0 := by
  refine meets_of (by decide +kernel) (Nat.le_of_ble_eq_true rfl) ?_
  first | refine aw_aload_n (i := 0) (q := 1) dJ3_init_0 rfl rfl rfl ?_ | refine aw_aloadN_n (i := 0) (q := 1) dJ3_init_0 rfl rfl rfl ?_ | refine aw_aloadQ_n (i := 0) (q := 1) dJ3_init_0 rfl rfl rfl ?_
  refine aw_objInit (q := 4) dJ3_init_1 oi_J3_1 (by decide) (by first | exact Nat.le_of_ble_eq_true rfl | simp [zcat_rf, Value.category]) rfl ?_
  exact aw_return dJ3_init_4 rfl (⟨rfl, rfl⟩)
theorem C_HM_init {m : Nat} (hm : μ m = some (hmT R o, .inr (19, [.null, .null, .null, .null, .int 0, .int 0, .int 0, .float 0]))) (hR : 1 ≤ R) : Meets G 3 MJ4_init [.ref m] μ (fun v μ' => v = none ∧ (∀ pl val, zHMk G μ' R o m 0 pl [] val) ∧ μ' = updM μ m (hmT R o, oHM none none 0 0 0)) 0 0 := by
  have hmz : hmT R o ≠ zC := fun e => by have e1 : R = 0 := congrArg Prod.fst e; omega
  refine meets_of (by decide +kernel) (Nat.le_of_ble_eq_true rfl) ?_
  first | refine aw_aload_n (i := 0) (q := 1) dJ4_init_0 rfl rfl rfl ?_ | refine aw_aloadN_n (i := 0) (q := 1) dJ4_init_0 rfl rfl rfl ?_ | refine aw_aloadQ_n (i := 0) (q := 1) dJ4_init_0 rfl rfl rfl ?_
  refine aw_callI (q := 4) dJ4_init_1 (C_J3_init) ci_J4_43 rfl rfl (by decide) (by decide) (by first | exact Nat.le_of_ble_eq_true rfl | simp [zcat_rf, Value.category]) rfl (zpv ?_)
  first | refine aw_aload_n (i := 0) (q := 5) dJ4_init_4 rfl rfl rfl ?_ | refine aw_aloadN_n (i := 0) (q := 5) dJ4_init_4 rfl rfl rfl ?_ | refine aw_aloadQ_n (i := 0) (q := 5) dJ4_init_4 rfl rfl rfl ?_
  refine aw_ldcf (q := 7) dJ4_init_5 q174 rfl ?_
  refine aw_putF (q := 10) dJ4_init_7 pf_J4_81_19 rfl hm hmz rfl rfl (Nat.le_of_ble_eq_true rfl) rfl (fun μ1 hg_μ1 => ?_)
  have hm1 : μ1 m = some _ := hg_μ1 ▸ updM_eq _ _ _
  exact aw_return dJ4_init_10 rfl (⟨rfl, fun pl val => Or.inr ⟨rfl, rfl, none, 0, 0, ⟨hm1, Or.inl rfl⟩, fun e he => by cases he⟩, hg_μ1⟩)
theorem C_HM_size {m : Nat} {pl : Bool} {ks : List Nat} {val : Nat → Nat} (hm : zHM G μ R o m pl ks val) : Meets G 1 MJ4_size [.ref m] μ (zPure (.int (nI ks.length)) μ) 0 0 := by
  rcases hm with ⟨tb, k, es, mc, ⟨h1, -⟩, -⟩ | ⟨rfl, es, mc, thr, ⟨h2, -⟩, -⟩
  · refine meets_of (by decide +kernel) (Nat.le_of_ble_eq_true rfl) ?_
    first | refine aw_aload_n (i := 0) (q := 1) dJ4_size_0 rfl rfl rfl ?_ | refine aw_aloadN_n (i := 0) (q := 1) dJ4_size_0 rfl rfl rfl ?_ | refine aw_aloadQ_n (i := 0) (q := 1) dJ4_size_0 rfl rfl rfl ?_
    refine aw_getfield (q := 4) dJ4_size_1 gf_J4_156_19 (by assumption) rfl rfl ?_
    exact aw_ireturn dJ4_size_4 rfl (by first | rfl | exact zB_nar _) (⟨rfl, rfl⟩)
  · refine meets_of (by decide +kernel) (Nat.le_of_ble_eq_true rfl) ?_
    first | refine aw_aload_n (i := 0) (q := 1) dJ4_size_0 rfl rfl rfl ?_ | refine aw_aloadN_n (i := 0) (q := 1) dJ4_size_0 rfl rfl rfl ?_ | refine aw_aloadQ_n (i := 0) (q := 1) dJ4_size_0 rfl rfl rfl ?_
    refine aw_getfield (q := 4) dJ4_size_1 gf_J4_156_19 (by assumption) rfl rfl ?_
    exact aw_ireturn dJ4_size_4 rfl (by first | rfl | exact zB_nar _) (⟨rfl, rfl⟩)
/-- a key less: the tables -/
theorem zHMc.del {μ' : zM} {tb k cap h i : Nat} {ks : List Nat} {val : Nat → Nat} {ky : Nat → Nat} {ft ft' : Nat → Option Nat} {L : Nat → List Nat} {tr : Nat → Bool} {l' : List Nat}
    (h2 : ks.Nodup) (h3 : zKy μ ky ks) (h4 : zTab G μ R o tb (2 ^ k) cap ky (zVl G val) ft L tr) (h5 : ∀ x, x ∈ ks ↔ x ∈ L (x % 2 ^ k)) (h6 : ∀ i, i < 2 ^ k → tr i = false) (h7 : 1 ≤ k ∧ k ≤ 8) (hR : 1 ≤ R)
    (hi : h % 2 ^ k = i) (htb : μ' tb = some (hbT R o, aN G (2 ^ k) ft')) (hft : ∀ j, j ≠ i → ft' j = ft j) (hb : zBin μ' R o cap ky (zVl G val) false (ft' i) l') (hl : ∀ x, x ∈ l' ↔ x ∈ L i ∧ x ≠ h)
    (hkp : zKp (fun c u => c = tb ∨ ∃ x, x ∈ L i ∧ u = hnT R o x) μ μ') : zHMc G μ' R o tb k cap true (zDel h ks) val := by
  obtain ⟨h40, h41⟩ := h4
  have hn0 : 0 < 2 ^ k := Nat.two_pow_pos k
  have hil : i < 2 ^ k := hi ▸ Nat.mod_lt _ hn0
  have hkp' : zKp (fun _ u => u = hbT R o ∨ ∃ x, x ∈ L i ∧ u = hnT R o x) μ μ' := hkp.tag h40
  have nz : ∀ c : Nat, ¬ (((0, 0) : zT) = hbT R o ∨ ∃ x, x ∈ L i ∧ ((0, 0) : zT) = hnT R o x) := by
    rintro - (q | ⟨x, -, q⟩)
    · have e1 : 0 = R + 1 := congrArg Prod.fst q
      omega
    · have e1 : 0 = R + 2 + x := congrArg Prod.fst q
      omega
  refine ⟨ky, ft', fun j => if j = i then l' else L j, fun _ => false, zDel_nodup h2, fun x hx => hkp' _ _ _ (h3 x ((zDel_mem h2).mp hx).1) (nz 0), ⟨htb, ?_⟩, ?_, fun _ _ _ => rfl, h7⟩
  · intro j hj
    by_cases e : j = i
    · subst e
      try dsimp only
      rw [if_pos rfl]
      exact ⟨hb, fun x hx => (h41 _ hj).2 x ((hl x).mp hx).1⟩
    · try dsimp only
      rw [if_neg e, hft j e]
      obtain ⟨g1, g2⟩ := h41 j hj
      rw [h6 j hj] at g1
      refine ⟨g1.kp hkp' (fun x c hx q => ?_), g2⟩
      rcases q with q | ⟨y, hy, q⟩
      · exact zTb_ne q
      · have e1 := g2 x hx
        rw [hnT_in q] at e1
        have := (h41 i hil).2 y hy
        omega
  · intro x
    rw [zDel_mem h2, h5 x]
    by_cases e : x % 2 ^ k = i
    · try dsimp only
      rw [e, if_pos rfl, hl x]
    · try dsimp only
      rw [if_neg e]
      exact ⟨fun q => q.1, fun q => ⟨q, fun z => e (z ▸ hi)⟩⟩
theorem C_anr {m c : Nat} : Meets G 1 MJ4_afterNodeRemoval [.ref m, .ref c] μ (zVoid μ) 0 0 := by
  refine meets_of (by decide +kernel) (Nat.le_of_ble_eq_true rfl) ?_
  exact aw_return dJ4_afterNodeRemoval_0 rfl (⟨rfl, rfl⟩)
/-- what removeNode leaves -/
def zRmP (G : zG) (μ : zM) (R o m k h : Nat) (ks : List Nat) (val : Nat → Nat) : Option Value → zM → Prop := fun v μ' => (h ∉ ks ∧ v = some .null ∧ μ' = μ) ∨ (h ∈ ks ∧ ∃ c ky nx, v = some (.ref c) ∧ zHMk G μ' R o m k true (zDel h ks) val ∧ zKp (zMt R o) μ μ' ∧ μ' c = some (hnT R o h, oNd h ky (G.2.2.2 (228 + val h)) nx))
set_option maxHeartbeats 8000000 in
theorem C_removeNode {m k h kk : Nat} {ks : List Nat} {val : Nat → Nat} (hm : zHMk G μ R o m k true ks val) (hk : μ kk = some ((0, 0), oTime (nI (h / 6)) (nI (h % 6)))) (h8 : h < 8192) (hS : ks.length ≤ 125) (hR : 1 ≤ R) : Meets G 2 MJ4_removeNode [.ref m, .int (nI h), .ref kk, .null, .int 0, .int 1] μ (zRmP G μ R o m k h ks val) 0 0 := by
  have stop : h ∉ ks → AW G 2 MJ4_removeNode (zRmP G μ R o m k h ks val) 0 0 289 [] [] μ := by
    intro hn
    refine aw_null (q := 290) dJ4_removeNode_289 rfl ?_
    exact aw_areturnN dJ4_removeNode_290 rfl (by first | exact Or.inl ⟨_, rfl⟩ | exact Or.inr ⟨_, rfl⟩) (Or.inl ⟨hn, rfl, rfl⟩)
  have hmz : hmT R o ≠ zC := fun e => by have e1 : R = 0 := congrArg Prod.fst e; omega
  have htz : hbT R o ≠ zC := fun e => by have e1 : R + 1 = 0 := congrArg Prod.fst e; omega
  rcases hm with ⟨tb, es, mc, ⟨h1, ky, ft, L, tr, h2, h3, h4, h5, h6, h71, h72⟩, h7, hes⟩ | ⟨-, rfl, es, mc, thr, ⟨h20, -⟩, -⟩
  · have h40 := h4.1
    have hn256 : 2 ^ k ≤ 2 ^ 8 := Nat.pow_le_pow_right (by decide) h72
    have hn0 : 0 < 2 ^ k := Nat.two_pow_pos k
    have hil : h % 2 ^ k < 2 ^ k := Nat.mod_lt _ hn0
    obtain ⟨hbin, hbm⟩ := h4.2 (h % 2 ^ k) hil
    rw [h6 rfl _ hil] at hbin
    have h6' := h6 rfl
    obtain ⟨ν, nx, hf, hc, hnd, hP, -⟩ := hbin
    obtain ⟨hP, hlen⟩ := hP rfl
    have hiff : h ∈ ks ↔ h ∈ L (h % 2 ^ k) := h5 h
    have hm0 := h1
    try simp only [zrf_s] at h1
    have htbn : ∀ x, x ∈ L (h % 2 ^ k) → ν x ≠ tb := fun x hx => zneq (hP x hx).2 h40 (by simp)
    -- 260: the counts
    have s260 : ∀ (μ1 : zM) (ft' : Nat → Option Nat) (l' : List Nat), h ∈ ks → μ1 tb = some (hbT R o, aN G (2 ^ k) ft') → (∀ j, j ≠ h % 2 ^ k → ft' j = ft j) → zBin μ1 R o (zCap k) ky (zVl G val) false (ft' (h % 2 ^ k)) l' → (∀ x, x ∈ l' ↔ x ∈ L (h % 2 ^ k) ∧ x ≠ h) → zKp (fun c u => c = tb ∨ ∃ x, x ∈ L (h % 2 ^ k) ∧ u = hnT R o x) μ μ1 → (∃ ky nx, μ1 (ν h) = some (hnT R o h, oNd h ky (G.2.2.2 (228 + val h)) nx)) → AW G 2 MJ4_removeNode (zRmP G μ R o m k h ks val) 0 0 260 [(0, .ref m), (10, .ref (ν h))] [] μ1 := by
      intro μ1 ft' l' hin htb1 hft1 hb1 hl1 hk1 ⟨ky1, nx1, hn1⟩
      have hk1' := hk1.tag h40
      have hm1 := hk1' _ _ _ h1 (fun q => q.elim (fun q => zTbm_ne q.symm) (fun ⟨x, _, q⟩ => zTm_ne q.symm))
      have hdel := zHMc.del h2 h3 h4 h5 h6' ⟨h71, h72⟩ hR rfl htb1 hft1 hb1 hl1 hk1
      have hlenS := zDel_len hin
      have hm10 := hm1
      first | refine aw_aload_n (i := 0) (q := 261) dJ4_removeNode_260 rfl rfl rfl ?_ | refine aw_aloadN_n (i := 0) (q := 261) dJ4_removeNode_260 rfl rfl rfl ?_ | refine aw_aloadQ_n (i := 0) (q := 261) dJ4_removeNode_260 rfl rfl rfl ?_
      refine aw_dup (q := 262) dJ4_removeNode_261 (by first | rfl | exact zcat_rf _) rfl ?_
      refine aw_getfield (q := 265) dJ4_removeNode_262 gf_J4_202_19 (by assumption) rfl rfl ?_
      refine aw_iconst (v := 1) (q := 266) dJ4_removeNode_265 rfl rfl ?_
      refine aw_iadd (q := 267) dJ4_removeNode_266 rfl ?_
      refine aw_putfield (q := 270) dJ4_removeNode_267 gf_J4_202_19 hm1 (by first | assumption | simp) (by first | rfl | exact znar_rf _ _ | exact zB_nar _) (by first | rfl | exact zfit_rf _ _ | exact zB_fit _) (Nat.le_of_ble_eq_true rfl) rfl (fun μ2 hg_μ2 => ?_)
      have hm1 : μ2 _ = some _ := hg_μ2 ▸ updM_eq _ _ _
      simp only [List.set] at hm1 hg_μ2
      have hk2 : zKp (fun _ u => u = hmT R o) μ1 μ2 := by rw [hg_μ2]; exact zKp.put hm10 rfl
      have hm2 := hm1
      first | refine aw_aload_n (i := 0) (q := 271) dJ4_removeNode_270 rfl rfl rfl ?_ | refine aw_aloadN_n (i := 0) (q := 271) dJ4_removeNode_270 rfl rfl rfl ?_ | refine aw_aloadQ_n (i := 0) (q := 271) dJ4_removeNode_270 rfl rfl rfl ?_
      refine aw_dup (q := 272) dJ4_removeNode_271 (by first | rfl | exact zcat_rf _) rfl ?_
      refine aw_getfield (q := 275) dJ4_removeNode_272 gf_J4_156_19 (by assumption) rfl rfl ?_
      refine aw_iconst (v := 1) (q := 276) dJ4_removeNode_275 rfl rfl ?_
      refine aw_isub (q := 277) dJ4_removeNode_276 rfl ?_
      rw [← hlenS, nI_pred]
      rw [← hlenS] at hm1 hm2
      refine aw_putfield (q := 280) dJ4_removeNode_277 gf_J4_156_19 hm1 (by first | assumption | simp) (by first | rfl | exact znar_rf _ _ | exact zB_nar _) (by first | rfl | exact zfit_rf _ _ | exact zB_fit _) (Nat.le_of_ble_eq_true rfl) rfl (fun μ3 hg_μ3 => ?_)
      have hm1 : μ3 _ = some _ := hg_μ3 ▸ updM_eq _ _ _
      simp only [List.set] at hm1 hg_μ3
      have hk3 : zKp (fun _ u => u = hmT R o) μ2 μ3 := by rw [hg_μ3]; exact zKp.put hm2 rfl
      have hk13 := hk2.tr hk3
      have hc3 := hdel.kp hk13 (fun c => zTbm_ne) (fun c x _ => zTm_ne) (fun c q => by have e1 : 0 = R := congrArg Prod.fst q; omega)
      have hkk : zKp (zMt R o) μ μ3 := (hk1'.mono (fun c u q => q.elim (fun q => q ▸ zMt_b) (fun ⟨x, hx, q⟩ => q ▸ zMt_n (hP x hx).1))).tr (hk13.mono (fun c u q => q ▸ zMt_m))
      have hn3 := hk13 _ _ _ hn1 (fun q => zTm_ne q)
      first | refine aw_aload_n (i := 0) (q := 281) dJ4_removeNode_280 rfl rfl rfl ?_ | refine aw_aloadN_n (i := 0) (q := 281) dJ4_removeNode_280 rfl rfl rfl ?_ | refine aw_aloadQ_n (i := 0) (q := 281) dJ4_removeNode_280 rfl rfl rfl ?_
      first | refine aw_aload (q := 283) dJ4_removeNode_281 rfl rfl ?_ | refine aw_aloadN (q := 283) dJ4_removeNode_281 rfl rfl ?_ | refine aw_aloadQ (q := 283) dJ4_removeNode_281 rfl rfl ?_
      refine aw_callV (q := 286) dJ4_removeNode_283 (C_anr) cv_J4_236_19 (by assumption) rfl rfl (by decide) (by decide) (by first | exact Nat.le_of_ble_eq_true rfl | simp [zcat_rf, Value.category]) rfl (zpv ?_)
      first | refine aw_aload (q := 288) dJ4_removeNode_286 rfl rfl ?_ | refine aw_aloadN (q := 288) dJ4_removeNode_286 rfl rfl ?_ | refine aw_aloadQ (q := 288) dJ4_removeNode_286 rfl rfl ?_
      exact aw_areturnR dJ4_removeNode_288 rfl (by first | exact Or.inl ⟨_, rfl⟩ | exact Or.inr ⟨_, rfl⟩) (Or.inr ⟨hin, ν h, ky1, nx1, rfl, Or.inl ⟨tb, es, _, ⟨hm1, hc3⟩, by omega, fun e he => hkk _ _ _ (hes e he) (fun q => by have e1 : R ≤ 0 := q.2.1; omega)⟩, hkk, hn3⟩)
    refine meets_of (by decide +kernel) (Nat.le_of_ble_eq_true rfl) ?_
    first | refine aw_aload_n (i := 0) (q := 1) dJ4_removeNode_0 rfl rfl rfl ?_ | refine aw_aloadN_n (i := 0) (q := 1) dJ4_removeNode_0 rfl rfl rfl ?_ | refine aw_aloadQ_n (i := 0) (q := 1) dJ4_removeNode_0 rfl rfl rfl ?_
    refine aw_getfield (q := 4) dJ4_removeNode_1 gf_J4_105_19 (by assumption) rfl rfl ?_
    refine aw_dup (q := 5) dJ4_removeNode_4 (by first | rfl | exact zcat_rf _) rfl ?_
    first | refine aw_astore (q := 7) dJ4_removeNode_5 (by decide) rfl ?_ | refine aw_astoreN (q := 7) dJ4_removeNode_5 (by decide) rfl ?_ | refine aw_astoreQ (q := 7) dJ4_removeNode_5 (by decide) rfl ?_
    refine aw_ifnull_r (q := 10) dJ4_removeNode_7 rfl ?_
    first | refine aw_aload (q := 12) dJ4_removeNode_10 rfl rfl ?_ | refine aw_aloadN (q := 12) dJ4_removeNode_10 rfl rfl ?_ | refine aw_aloadQ (q := 12) dJ4_removeNode_10 rfl rfl ?_
    first | refine aw_alenI (q := 13) dJ4_removeNode_12 (by assumption) rfl ?_ | refine aw_alenO (q := 13) dJ4_removeNode_12 (by assumption) rfl ?_ | refine aw_alenN (q := 13) dJ4_removeNode_12 (by assumption) rfl ?_ | refine aw_alenB (q := 13) dJ4_removeNode_12 (by assumption) rfl ?_ | refine aw_alenP (q := 13) dJ4_removeNode_12 (by assumption) rfl ?_
    refine aw_dup (q := 14) dJ4_removeNode_13 (by first | rfl | exact zcat_rf _) rfl ?_
    refine aw_istore (q := 16) dJ4_removeNode_14 (by decide) rfl ?_
    try simp (config := {decide := true}) only [zput, zdel_q, zdel_f, zdel_t, zdel_nil, zdel_r, zdel_i, zdel_n]
    generalize hN : 2 ^ k = n at *
    refine aw_if_le (tgt := 289) (q := 19) dJ4_removeNode_16 (by decide) rfl (fun hZ => absurd hZ (nI_nle hn0 (by omega))) (fun _ => ?_)
    first | refine aw_aload (q := 21) dJ4_removeNode_19 rfl rfl ?_ | refine aw_aloadN (q := 21) dJ4_removeNode_19 rfl rfl ?_ | refine aw_aloadQ (q := 21) dJ4_removeNode_19 rfl rfl ?_
    refine aw_iload (q := 23) dJ4_removeNode_21 rfl rfl ?_
    refine aw_iconst (v := 1) (q := 24) dJ4_removeNode_23 rfl rfl ?_
    refine aw_isub (q := 25) dJ4_removeNode_24 rfl ?_
    refine aw_iload_n (i := 1) (q := 26) dJ4_removeNode_25 rfl rfl rfl ?_
    refine aw_iand (q := 27) dJ4_removeNode_26 rfl ?_
    refine aw_dup (q := 28) dJ4_removeNode_27 (by first | rfl | exact zcat_rf _) rfl ?_
    refine aw_istore (q := 30) dJ4_removeNode_28 (by decide) rfl ?_
    rw [show nI n - 1 = nI (n - 1) by rw [show n = (n - 1) + 1 by omega]; exact nI_pred _, i_mask hN (by omega) (by omega)]
    first | refine aw_aaldO (q := 31) (v := ft (h % n)) (h % n) dJ4_removeNode_30 (by assumption) (by first | assumption | (simp only [← nI_add, ← pk_mul]; rfl) | rfl) (by omega) (by omega) (rfl) rfl ?_ | refine aw_aaldP (q := 31) (v := ft (h % n)) (h % n) dJ4_removeNode_30 (by assumption) (by first | assumption | (simp only [← nI_add, ← pk_mul]; rfl) | rfl) (by omega) (by omega) (rfl) rfl ?_ | refine aw_aaldN (q := 31) (v := ft (h % n)) (h % n) dJ4_removeNode_30 (by assumption) (by first | assumption | (simp only [← nI_add, ← pk_mul]; rfl) | rfl) (by omega) (by omega) (rfl) rfl ?_
    refine aw_dup (q := 32) dJ4_removeNode_31 (by first | rfl | exact zcat_rf _) rfl ?_
    first | refine aw_astore (q := 34) dJ4_removeNode_32 (by decide) rfl ?_ | refine aw_astoreN (q := 34) dJ4_removeNode_32 (by decide) rfl ?_ | refine aw_astoreQ (q := 34) dJ4_removeNode_32 (by decide) rfl ?_
    try simp (config := {decide := true}) only [zput, zdel_q, zdel_f, zdel_t, zdel_nil, zdel_r, zdel_i, zdel_n]
    rw [hf]
    rcases hL : L (h % n) with _ | ⟨x, l⟩
    · try simp only [List.head?_nil, Option.map_none, zrf_n]
      refine aw_ifnull_n (tgt := 289) dJ4_removeNode_34 (by decide) ?_
      exact AW.bud (aw_locals (by exact trivial) (stop (fun q => by (rw [hiff, hL] at q; exact absurd q List.not_mem_nil)))) (by omega) (by omega)
    · have hxl : x ∈ L (h % n) := by rw [hL]; exact List.mem_cons_self
      have hcL := hc
      rw [hL] at hc
      have hndL := hnd
      rw [hL] at hnd
      obtain ⟨hx8, hx0⟩ := hP x hxl
      have hx1 := hx0
      rw [hc.1] at hx1
      try simp only [List.head?_cons, Option.map_some, zrf_s]
      -- 206: the node is found; p is the one ahead of it, or itself
      have found : ∀ (l1 l2 : List Nat) (p : Nat), L (h % n) = l1 ++ h :: l2 → ((l1 = [] ∧ p = h) ∨ (∃ l0, l1 = l0 ++ [p])) → AW G 2 MJ4_removeNode (zRmP G μ R o m k h ks val) 0 0 171 [(0, .ref m), (4, .int 0), (6, .ref tb), (7, .ref (ν p)), (9, .int (nI (h % n))), (10, .ref (ν h))] [] μ := by
        intro l1 l2 p hl hp
        have hin : h ∈ L (h % n) := by rw [hl]; exact List.mem_append_right _ List.mem_cons_self
        obtain ⟨-, hh0⟩ := hP h hin
        have hh1 := hh0
        have hnxh : nx h = l2.head? := by
          have : ∀ {l1 : List Nat}, zCh nx (l1 ++ h :: l2) → nx h = l2.head? := by
            intro l1
            induction l1 with
            | nil => intro q; exact q.1
            | cons z l1 ih => intro q; exact ih q.2
          exact this (hl ▸ hcL)
        rw [hnxh] at hh1
        have hml : ∀ y, y ∈ l1 ++ l2 ↔ y ∈ L (h % n) ∧ y ≠ h := fun y => by rw [hl]; exact zMemD (hl ▸ hndL)
        have hlen' : (l1 ++ l2).length ≤ zCap k := by
          have := hlen
          rw [hl] at this
          simp only [List.length_append, List.length_cons] at this ⊢
          omega
        first | refine aw_aload (q := 173) dJ4_removeNode_171 rfl rfl ?_ | refine aw_aloadN (q := 173) dJ4_removeNode_171 rfl rfl ?_ | refine aw_aloadQ (q := 173) dJ4_removeNode_171 rfl rfl ?_
        refine aw_ifnull_r (q := 176) dJ4_removeNode_173 rfl ?_
        refine aw_iload (q := 178) dJ4_removeNode_176 rfl rfl ?_
        refine aw_if_eq (tgt := 206) (q := 181) dJ4_removeNode_178 (by decide) rfl (fun _ => ?_) (fun hZ => absurd (rfl) hZ)
        first | refine aw_aload (q := 208) dJ4_removeNode_206 rfl rfl ?_ | refine aw_aloadN (q := 208) dJ4_removeNode_206 rfl rfl ?_ | refine aw_aloadQ (q := 208) dJ4_removeNode_206 rfl rfl ?_
        refine aw_instNo (q := 211) dJ4_removeNode_208 q739 hh1 rfl (by simp [zNcL]; decide +kernel) rfl ?_
        refine aw_if_eq (tgt := 230) (q := 214) dJ4_removeNode_211 (by decide) rfl (fun _ => ?_) (fun hZ => absurd (rfl) hZ)
        first | refine aw_aload (q := 232) dJ4_removeNode_230 rfl rfl ?_ | refine aw_aloadN (q := 232) dJ4_removeNode_230 rfl rfl ?_ | refine aw_aloadQ (q := 232) dJ4_removeNode_230 rfl rfl ?_
        first | refine aw_aload (q := 234) dJ4_removeNode_232 rfl rfl ?_ | refine aw_aloadN (q := 234) dJ4_removeNode_232 rfl rfl ?_ | refine aw_aloadQ (q := 234) dJ4_removeNode_232 rfl rfl ?_
        rcases hp with ⟨rfl, rfl⟩ | ⟨l0, rfl⟩
        · -- the first
          first | refine aw_acmpR_ne (tgt := 250) (q := 237) dJ4_removeNode_234 (by decide) rfl (fun hZ => absurd (rfl) hZ) (fun _ => ?_)
          first | refine aw_aload (q := 239) dJ4_removeNode_237 rfl rfl ?_ | refine aw_aloadN (q := 239) dJ4_removeNode_237 rfl rfl ?_ | refine aw_aloadQ (q := 239) dJ4_removeNode_237 rfl rfl ?_
          refine aw_iload (q := 241) dJ4_removeNode_239 rfl rfl ?_
          first | refine aw_aload (q := 243) dJ4_removeNode_241 rfl rfl ?_ | refine aw_aloadN (q := 243) dJ4_removeNode_241 rfl rfl ?_ | refine aw_aloadQ (q := 243) dJ4_removeNode_241 rfl rfl ?_
          first | refine aw_getfield (q := 246) dJ4_removeNode_243 gf_J4_177_13 (by assumption) rfl rfl ?_ | refine aw_getfield (q := 246) dJ4_removeNode_243 gf_J4_177_15 (by assumption) rfl rfl ?_ | refine aw_nd (i := 3) (q := 246) dJ4_removeNode_243 gf_J4_177_13 gf_J4_177_15 (by assumption) rfl rfl ?_
          cases l2 with
          | nil =>
            try simp only [List.head?_nil, Option.map_none, zrf_n]
            refine aw_aastN (j := 5) (E := "java/util/HashMap$Node") (p % n) (q := 247) dJ4_removeNode_246 rfl h40 htz rfl hil (by omega) rfl (fun μ1 hg_μ1 => ?_)
            have htb1 : μ1 tb = some _ := hg_μ1 ▸ updM_eq _ _ _
            have hk1 : zKp (fun c u => c = tb ∨ ∃ x, x ∈ L (p % n) ∧ u = hnT R o x) μ μ1 := hg_μ1 ▸ zKp.up.mono (fun c u q => Or.inl q)
            have hn1 : μ1 (ν p) = _ := hg_μ1 ▸ (updM_ne (htbn p hin)).trans hh0
            refine aw_goto (tgt := 260) dJ4_removeNode_247 (by decide) ?_
            refine aw_locals ?_ (s260 μ1 _ [] (hiff.mpr hin) htb1 (fun j hj => va_up_ne _ _ hj) (by rw [va_up_self]; exact zBin.nil) hml hk1 ⟨_, _, hn1⟩)
            exact ⟨rfl, rfl, trivial⟩
          | cons y l2 =>
            have hyl : y ∈ L (p % n) := by rw [hl]; exact List.mem_cons_of_mem _ List.mem_cons_self
            have hy1 := (hP y hyl).2
            try simp only [List.head?_cons, Option.map_some, zrf_s]
            refine aw_aastX (j := 5) (E := "java/util/HashMap$Node") (p % n) (q := 247) dJ4_removeNode_246 rfl h40 htz hy1 ca_13_J18 rfl hil (by omega) rfl (fun μ1 hg_μ1 => ?_)
            have htb1 : μ1 tb = some _ := hg_μ1 ▸ updM_eq _ _ _
            have hk1 : zKp (fun c u => c = tb ∨ ∃ x, x ∈ L (p % n) ∧ u = hnT R o x) μ μ1 := hg_μ1 ▸ zKp.up.mono (fun c u q => Or.inl q)
            have hn1 : μ1 (ν p) = _ := hg_μ1 ▸ (updM_ne (htbn p hin)).trans hh0
            have hP1 : zPn μ1 R o ν ky (zVl G val) nx (· ∈ y :: l2) := fun z hz => by
              have hzl : z ∈ L (p % n) := by rw [hl]; exact List.mem_cons_of_mem _ hz
              exact ⟨(hP z hzl).1, hg_μ1 ▸ (updM_ne (htbn z hzl)).trans (hP z hzl).2⟩
            have hb1 : zBin μ1 R o (zCap k) ky (zVl G val) false (some (ν y)) (y :: l2) := ⟨ν, nx, rfl, (hl ▸ hcL : zCh nx ([] ++ p :: y :: l2)).2, (List.nodup_cons.mp (hl ▸ hndL : ([] ++ p :: y :: l2).Nodup)).2, fun _ => ⟨hP1, hlen'⟩, fun q => by cases q⟩
            refine aw_goto (tgt := 260) dJ4_removeNode_247 (by decide) ?_
            refine aw_locals ?_ (s260 μ1 _ (y :: l2) (hiff.mpr hin) htb1 (fun j hj => va_up_ne _ _ hj) (by rw [va_up_self]; exact hb1) hml hk1 ⟨_, _, hn1⟩)
            exact ⟨rfl, rfl, trivial⟩
        · -- behind p
          have hpl : p ∈ L (h % n) := by rw [hl]; exact List.mem_append_left _ (List.mem_append_right _ List.mem_cons_self)
          have hph : p ≠ h := by
            intro e
            have := (hl ▸ hndL : (l0 ++ [p] ++ h :: l2).Nodup)
            exact (List.nodup_append.mp this).2.2 p (List.mem_append_right _ List.mem_cons_self) h List.mem_cons_self e
          have hνne : ν h ≠ ν p := fun q => by
            have q1 := hh0
            rw [q, (hP p hpl).2] at q1
            exact hph (hnT_in (congrArg Prod.fst (Option.some.inj q1)))
          have hp1 := (hP p hpl).2
          first | refine aw_acmpR_ne (tgt := 250) (q := 237) dJ4_removeNode_234 (by decide) rfl (fun _ => ?_) (fun hZ => absurd hZ (hνne))
          first | refine aw_aload (q := 252) dJ4_removeNode_250 rfl rfl ?_ | refine aw_aloadN (q := 252) dJ4_removeNode_250 rfl rfl ?_ | refine aw_aloadQ (q := 252) dJ4_removeNode_250 rfl rfl ?_
          first | refine aw_aload (q := 254) dJ4_removeNode_252 rfl rfl ?_ | refine aw_aloadN (q := 254) dJ4_removeNode_252 rfl rfl ?_ | refine aw_aloadQ (q := 254) dJ4_removeNode_252 rfl rfl ?_
          first | refine aw_getfield (q := 257) dJ4_removeNode_254 gf_J4_177_13 (by assumption) rfl rfl ?_ | refine aw_getfield (q := 257) dJ4_removeNode_254 gf_J4_177_15 (by assumption) rfl rfl ?_ | refine aw_nd (i := 3) (q := 257) dJ4_removeNode_254 gf_J4_177_13 gf_J4_177_15 (by assumption) rfl rfl ?_
          first | refine aw_putfield (q := 260) dJ4_removeNode_257 gf_J4_177_13 hp1 (by first | assumption | simp) (by first | rfl | exact znar_rf _ _ | exact zB_nar _) (by first | rfl | exact zfit_rf _ _ | exact zB_fit _) (Nat.le_of_ble_eq_true rfl) rfl (fun μ1 hg_μ1 => ?_) | refine aw_putfield (q := 260) dJ4_removeNode_257 gf_J4_177_15 hp1 (by first | assumption | simp) (by first | rfl | exact znar_rf _ _ | exact zB_nar _) (by first | rfl | exact zfit_rf _ _ | exact zB_fit _) (Nat.le_of_ble_eq_true rfl) rfl (fun μ1 hg_μ1 => ?_)
          have hp1 : μ1 _ = some _ := hg_μ1 ▸ updM_eq _ _ _
          simp only [List.set] at hp1 hg_μ1
          have hP1 := hP.p_nx (μ' := μ1) hpl (nx h) (by rw [hnxh]; exact hg_μ1)
          have htb1 : μ1 tb = some _ := hg_μ1 ▸ (updM_ne (Ne.symm (htbn p hpl))).trans h40
          have hk1 : zKp (fun c u => c = tb ∨ ∃ x, x ∈ L (h % n) ∧ u = hnT R o x) μ μ1 := hg_μ1 ▸ zKp.put (hP p hpl).2 (Or.inr ⟨p, hpl, rfl⟩)
          have hn1 : μ1 (ν h) = _ := hg_μ1 ▸ (updM_ne hνne).trans hh0
          have hl' : L (h % n) = l0 ++ p :: h :: l2 := by rw [hl, List.append_assoc]; rfl
          have hdrop := (hl' ▸ hcL : zCh nx (l0 ++ p :: h :: l2)).drop (hl' ▸ hndL)
          have ehd : (l0 ++ p :: l2).head? = (L (h % n)).head? := by rw [hl']; cases l0 <;> rfl
          have eap : l0 ++ [p] ++ l2 = l0 ++ p :: l2 := by rw [List.append_assoc]; rfl
          rw [eap] at hml hlen'
          have hb1 : zBin μ1 R o (zCap k) ky (zVl G val) false (ft (h % n)) (l0 ++ p :: l2) := ⟨ν, _, by rw [ehd]; exact hf, hdrop, eap ▸ zNodD (hl ▸ hndL), fun _ => ⟨fun z hz => hP1 z ((hml z).mp hz).1, hlen'⟩, fun q => by cases q⟩
          refine aw_locals ?_ (s260 μ1 _ (l0 ++ p :: l2) (hiff.mpr (by rw [hl]; exact List.mem_append_right _ List.mem_cons_self)) htb1 (fun j hj => rfl) hb1 hml hk1 ⟨_, _, hn1⟩)
          exact ⟨rfl, rfl, trivial⟩
      have none_ : h ∉ ks → AW G 2 MJ4_removeNode (zRmP G μ R o m k h ks val) 0 0 171 [(10, .null)] [] μ := by
        intro hn
        first | refine aw_aload (q := 173) dJ4_removeNode_171 rfl rfl ?_ | refine aw_aloadN (q := 173) dJ4_removeNode_171 rfl rfl ?_ | refine aw_aloadQ (q := 173) dJ4_removeNode_171 rfl rfl ?_
        refine aw_ifnull_n (tgt := 289) dJ4_removeNode_173 (by decide) ?_
        exact AW.bud (aw_locals (by exact trivial) (stop hn)) (by omega) (by omega)
      refine aw_ifnull_r (q := 37) dJ4_removeNode_34 rfl ?_
      refine aw_null (q := 38) dJ4_removeNode_37 rfl ?_
      first | refine aw_astore (q := 40) dJ4_removeNode_38 (by decide) rfl ?_ | refine aw_astoreN (q := 40) dJ4_removeNode_38 (by decide) rfl ?_ | refine aw_astoreQ (q := 40) dJ4_removeNode_38 (by decide) rfl ?_
      first | refine aw_aload (q := 42) dJ4_removeNode_40 rfl rfl ?_ | refine aw_aloadN (q := 42) dJ4_removeNode_40 rfl rfl ?_ | refine aw_aloadQ (q := 42) dJ4_removeNode_40 rfl rfl ?_
      first | refine aw_getfield (q := 45) dJ4_removeNode_42 gf_J4_168_13 (by assumption) rfl rfl ?_ | refine aw_getfield (q := 45) dJ4_removeNode_42 gf_J4_168_15 (by assumption) rfl rfl ?_ | refine aw_nd (i := 0) (q := 45) dJ4_removeNode_42 gf_J4_168_13 gf_J4_168_15 (by assumption) rfl rfl ?_
      refine aw_iload_n (i := 1) (q := 46) dJ4_removeNode_45 rfl rfl rfl ?_
      by_cases hxh : x = h
      · subst hxh
        have hkx := h3 x (hiff.mpr hxl)
        refine aw_icmp_ne (tgt := 81) (q := 49) dJ4_removeNode_46 (by decide) rfl (fun hZ => absurd (rfl) hZ) (fun _ => ?_)
        first | refine aw_aload (q := 51) dJ4_removeNode_49 rfl rfl ?_ | refine aw_aloadN (q := 51) dJ4_removeNode_49 rfl rfl ?_ | refine aw_aloadQ (q := 51) dJ4_removeNode_49 rfl rfl ?_
        first | refine aw_getfield (q := 54) dJ4_removeNode_51 gf_J4_170_13 (by assumption) rfl rfl ?_ | refine aw_getfield (q := 54) dJ4_removeNode_51 gf_J4_170_15 (by assumption) rfl rfl ?_ | refine aw_nd (i := 1) (q := 54) dJ4_removeNode_51 gf_J4_170_13 gf_J4_170_15 (by assumption) rfl rfl ?_
        refine aw_dup (q := 55) dJ4_removeNode_54 (by first | rfl | exact zcat_rf _) rfl ?_
        first | refine aw_astore (q := 57) dJ4_removeNode_55 (by decide) rfl ?_ | refine aw_astoreN (q := 57) dJ4_removeNode_55 (by decide) rfl ?_ | refine aw_astoreQ (q := 57) dJ4_removeNode_55 (by decide) rfl ?_
        try simp (config := {decide := true}) only [zput, zdel_q, zdel_f, zdel_t, zdel_nil, zdel_r, zdel_i, zdel_n]
        first | refine aw_aload_n (i := 2) (q := 58) dJ4_removeNode_57 rfl rfl rfl ?_ | refine aw_aloadN_n (i := 2) (q := 58) dJ4_removeNode_57 rfl rfl rfl ?_ | refine aw_aloadQ_n (i := 2) (q := 58) dJ4_removeNode_57 rfl rfl rfl ?_
        first | refine aw_acmpR_eq (tgt := 74) (q := 61) dJ4_removeNode_58 (by decide) rfl (fun hcc => ?_) (fun hcc => ?_)
        · first | refine aw_aload (q := 76) dJ4_removeNode_74 rfl rfl ?_ | refine aw_aloadN (q := 76) dJ4_removeNode_74 rfl rfl ?_ | refine aw_aloadQ (q := 76) dJ4_removeNode_74 rfl rfl ?_
          first | refine aw_astore (q := 78) dJ4_removeNode_76 (by decide) rfl ?_ | refine aw_astoreN (q := 78) dJ4_removeNode_76 (by decide) rfl ?_ | refine aw_astoreQ (q := 78) dJ4_removeNode_76 (by decide) rfl ?_
          refine aw_goto (tgt := 171) dJ4_removeNode_78 (by decide) ?_
          refine aw_locals ?_ (found [] l x (by rw [hL]; rfl) (Or.inl ⟨rfl, rfl⟩))
          exact ⟨rfl, rfl, rfl, rfl, rfl, rfl, trivial⟩
        · first | refine aw_aload_n (i := 2) (q := 62) dJ4_removeNode_61 rfl rfl rfl ?_ | refine aw_aloadN_n (i := 2) (q := 62) dJ4_removeNode_61 rfl rfl rfl ?_ | refine aw_aloadQ_n (i := 2) (q := 62) dJ4_removeNode_61 rfl rfl rfl ?_
          refine aw_ifnull_r (q := 65) dJ4_removeNode_62 rfl ?_
          first | refine aw_aload_n (i := 2) (q := 66) dJ4_removeNode_65 rfl rfl rfl ?_ | refine aw_aloadN_n (i := 2) (q := 66) dJ4_removeNode_65 rfl rfl rfl ?_ | refine aw_aloadQ_n (i := 2) (q := 66) dJ4_removeNode_65 rfl rfl rfl ?_
          first | refine aw_aload (q := 68) dJ4_removeNode_66 rfl rfl ?_ | refine aw_aloadN (q := 68) dJ4_removeNode_66 rfl rfl ?_ | refine aw_aloadQ (q := 68) dJ4_removeNode_66 rfl rfl ?_
          refine aw_callU (q := 71) dJ4_removeNode_68 (C_Time_equals hk hkx) cu_J4_173_8 (by assumption) rfl rfl (by decide) (by decide) (by first | exact Nat.le_of_ble_eq_true rfl | simp [zcat_rf, Value.category]) rfl (zpk ?_)
          refine aw_if_eq (tgt := 81) (q := 74) dJ4_removeNode_71 (by decide) rfl (fun hZ => absurd hZ (by (rw [zB_t ⟨rfl, rfl⟩]; decide))) (fun _ => ?_)
          first | refine aw_aload (q := 76) dJ4_removeNode_74 rfl rfl ?_ | refine aw_aloadN (q := 76) dJ4_removeNode_74 rfl rfl ?_ | refine aw_aloadQ (q := 76) dJ4_removeNode_74 rfl rfl ?_
          first | refine aw_astore (q := 78) dJ4_removeNode_76 (by decide) rfl ?_ | refine aw_astoreN (q := 78) dJ4_removeNode_76 (by decide) rfl ?_ | refine aw_astoreQ (q := 78) dJ4_removeNode_76 (by decide) rfl ?_
          refine aw_goto (tgt := 171) dJ4_removeNode_78 (by decide) ?_
          refine aw_locals ?_ (found [] l x (by rw [hL]; rfl) (Or.inl ⟨rfl, rfl⟩))
          exact ⟨rfl, rfl, rfl, rfl, rfl, rfl, trivial⟩
      · skip
        refine aw_icmp_ne (tgt := 81) (q := 49) dJ4_removeNode_46 (by decide) rfl (fun _ => ?_) (fun hZ => absurd hZ ((fun q => hxh ((nI_eq (by omega) (by omega)).mp q))))
        first | refine aw_aload (q := 83) dJ4_removeNode_81 rfl rfl ?_ | refine aw_aloadN (q := 83) dJ4_removeNode_81 rfl rfl ?_ | refine aw_aloadQ (q := 83) dJ4_removeNode_81 rfl rfl ?_
        first | refine aw_getfield (q := 86) dJ4_removeNode_83 gf_J4_177_13 (by assumption) rfl rfl ?_ | refine aw_getfield (q := 86) dJ4_removeNode_83 gf_J4_177_15 (by assumption) rfl rfl ?_ | refine aw_nd (i := 3) (q := 86) dJ4_removeNode_83 gf_J4_177_13 gf_J4_177_15 (by assumption) rfl rfl ?_
        refine aw_dup (q := 87) dJ4_removeNode_86 (by first | rfl | exact zcat_rf _) rfl ?_
        first | refine aw_astore (q := 89) dJ4_removeNode_87 (by decide) rfl ?_ | refine aw_astoreN (q := 89) dJ4_removeNode_87 (by decide) rfl ?_ | refine aw_astoreQ (q := 89) dJ4_removeNode_87 (by decide) rfl ?_
        try simp (config := {decide := true}) only [zput, zdel_q, zdel_f, zdel_t, zdel_nil, zdel_r, zdel_i, zdel_n]
        rcases hl : l with _ | ⟨y, l'⟩
        · try simp only [List.head?_nil, Option.map_none, zrf_n]
          refine aw_ifnull_n (tgt := 171) dJ4_removeNode_89 (by decide) ?_
          refine aw_locals ?_ (none_ (fun q => by (rw [hiff, hL, hl] at q; exact hxh (List.mem_singleton.mp q).symm)))
          exact ⟨rfl, trivial⟩
        · try simp only [List.head?_cons, Option.map_some, zrf_s]
          refine aw_ifnull_r (q := 92) dJ4_removeNode_89 rfl ?_
          first | refine aw_aload (q := 94) dJ4_removeNode_92 rfl rfl ?_ | refine aw_aloadN (q := 94) dJ4_removeNode_92 rfl rfl ?_ | refine aw_aloadQ (q := 94) dJ4_removeNode_92 rfl rfl ?_
          refine aw_instNo (q := 97) dJ4_removeNode_94 q739 hx1 rfl (by simp [zNcL]; decide +kernel) rfl ?_
          refine aw_if_eq (tgt := 115) (q := 100) dJ4_removeNode_97 (by decide) rfl (fun _ => ?_) (fun hZ => absurd (rfl) hZ)
          have loop : ∀ (rest done : List Nat) (p z : Nat), L (h % n) = done ++ p :: z :: rest → (∀ v, v ∈ done ++ [p] → v ≠ h) → AW G 2 MJ4_removeNode (zRmP G μ R o m k h ks val) 0 0 115 [(0, .ref m), (1, .int (nI h)), (2, .ref kk), (4, .int 0), (6, .ref tb), (7, .ref (ν p)), (9, .int (nI (h % n))), (10, .null), (11, .ref (ν z))] [] μ := by
            intro rest
            induction rest with
            | nil =>
              intro done p z hlz hno
              have hzl : z ∈ L (h % n) := by rw [hlz]; exact List.mem_append_right _ (List.mem_cons_of_mem _ List.mem_cons_self)
              obtain ⟨hz8, hz1⟩ := hP z hzl
              have hnz : nx z = none := by
                have : ∀ {l1 : List Nat}, zCh nx (l1 ++ p :: z :: []) → nx z = none := by
                  intro l1
                  induction l1 with
                  | nil => intro q; exact q.2.1
                  | cons v l1 ih => intro q; exact ih q.2
                exact this (hlz ▸ hcL)
              rw [hnz] at hz1
              simp only [Option.map_none, zrf_n] at hz1
              first | refine aw_aload (q := 117) dJ4_removeNode_115 rfl rfl ?_ | refine aw_aloadN (q := 117) dJ4_removeNode_115 rfl rfl ?_ | refine aw_aloadQ (q := 117) dJ4_removeNode_115 rfl rfl ?_
              first | refine aw_getfield (q := 120) dJ4_removeNode_117 gf_J4_168_13 (by assumption) rfl rfl ?_ | refine aw_getfield (q := 120) dJ4_removeNode_117 gf_J4_168_15 (by assumption) rfl rfl ?_ | refine aw_nd (i := 0) (q := 120) dJ4_removeNode_117 gf_J4_168_13 gf_J4_168_15 (by assumption) rfl rfl ?_
              refine aw_iload_n (i := 1) (q := 121) dJ4_removeNode_120 rfl rfl rfl ?_
              by_cases hzh : z = h
              · subst hzh
                have hkz := h3 z (hiff.mpr hzl)
                have hlz' : L (z % n) = (done ++ [p]) ++ z :: [] := by rw [hlz, List.append_assoc]; rfl
                refine aw_icmp_ne (tgt := 156) (q := 124) dJ4_removeNode_121 (by decide) rfl (fun hZ => absurd (rfl) hZ) (fun _ => ?_)
                first | refine aw_aload (q := 126) dJ4_removeNode_124 rfl rfl ?_ | refine aw_aloadN (q := 126) dJ4_removeNode_124 rfl rfl ?_ | refine aw_aloadQ (q := 126) dJ4_removeNode_124 rfl rfl ?_
                first | refine aw_getfield (q := 129) dJ4_removeNode_126 gf_J4_170_13 (by assumption) rfl rfl ?_ | refine aw_getfield (q := 129) dJ4_removeNode_126 gf_J4_170_15 (by assumption) rfl rfl ?_ | refine aw_nd (i := 1) (q := 129) dJ4_removeNode_126 gf_J4_170_13 gf_J4_170_15 (by assumption) rfl rfl ?_
                refine aw_dup (q := 130) dJ4_removeNode_129 (by first | rfl | exact zcat_rf _) rfl ?_
                first | refine aw_astore (q := 132) dJ4_removeNode_130 (by decide) rfl ?_ | refine aw_astoreN (q := 132) dJ4_removeNode_130 (by decide) rfl ?_ | refine aw_astoreQ (q := 132) dJ4_removeNode_130 (by decide) rfl ?_
                try simp (config := {decide := true}) only [zput, zdel_q, zdel_f, zdel_t, zdel_nil, zdel_r, zdel_i, zdel_n]
                first | refine aw_aload_n (i := 2) (q := 133) dJ4_removeNode_132 rfl rfl rfl ?_ | refine aw_aloadN_n (i := 2) (q := 133) dJ4_removeNode_132 rfl rfl rfl ?_ | refine aw_aloadQ_n (i := 2) (q := 133) dJ4_removeNode_132 rfl rfl rfl ?_
                first | refine aw_acmpR_eq (tgt := 149) (q := 136) dJ4_removeNode_133 (by decide) rfl (fun hcc => ?_) (fun hcc => ?_)
                · first | refine aw_aload (q := 151) dJ4_removeNode_149 rfl rfl ?_ | refine aw_aloadN (q := 151) dJ4_removeNode_149 rfl rfl ?_ | refine aw_aloadQ (q := 151) dJ4_removeNode_149 rfl rfl ?_
                  first | refine aw_astore (q := 153) dJ4_removeNode_151 (by decide) rfl ?_ | refine aw_astoreN (q := 153) dJ4_removeNode_151 (by decide) rfl ?_ | refine aw_astoreQ (q := 153) dJ4_removeNode_151 (by decide) rfl ?_
                  refine aw_goto (tgt := 171) dJ4_removeNode_153 (by decide) ?_
                  refine aw_locals ?_ (found (done ++ [p]) [] p hlz' (Or.inr ⟨done, rfl⟩))
                  exact ⟨rfl, rfl, rfl, rfl, rfl, rfl, trivial⟩
                · first | refine aw_aload_n (i := 2) (q := 137) dJ4_removeNode_136 rfl rfl rfl ?_ | refine aw_aloadN_n (i := 2) (q := 137) dJ4_removeNode_136 rfl rfl rfl ?_ | refine aw_aloadQ_n (i := 2) (q := 137) dJ4_removeNode_136 rfl rfl rfl ?_
                  refine aw_ifnull_r (q := 140) dJ4_removeNode_137 rfl ?_
                  first | refine aw_aload_n (i := 2) (q := 141) dJ4_removeNode_140 rfl rfl rfl ?_ | refine aw_aloadN_n (i := 2) (q := 141) dJ4_removeNode_140 rfl rfl rfl ?_ | refine aw_aloadQ_n (i := 2) (q := 141) dJ4_removeNode_140 rfl rfl rfl ?_
                  first | refine aw_aload (q := 143) dJ4_removeNode_141 rfl rfl ?_ | refine aw_aloadN (q := 143) dJ4_removeNode_141 rfl rfl ?_ | refine aw_aloadQ (q := 143) dJ4_removeNode_141 rfl rfl ?_
                  refine aw_callU (q := 146) dJ4_removeNode_143 (C_Time_equals hk hkz) cu_J4_173_8 (by assumption) rfl rfl (by decide) (by decide) (by first | exact Nat.le_of_ble_eq_true rfl | simp [zcat_rf, Value.category]) rfl (zpk ?_)
                  refine aw_if_eq (tgt := 156) (q := 149) dJ4_removeNode_146 (by decide) rfl (fun hZ => absurd hZ (by (rw [zB_t ⟨rfl, rfl⟩]; decide))) (fun _ => ?_)
                  first | refine aw_aload (q := 151) dJ4_removeNode_149 rfl rfl ?_ | refine aw_aloadN (q := 151) dJ4_removeNode_149 rfl rfl ?_ | refine aw_aloadQ (q := 151) dJ4_removeNode_149 rfl rfl ?_
                  first | refine aw_astore (q := 153) dJ4_removeNode_151 (by decide) rfl ?_ | refine aw_astoreN (q := 153) dJ4_removeNode_151 (by decide) rfl ?_ | refine aw_astoreQ (q := 153) dJ4_removeNode_151 (by decide) rfl ?_
                  refine aw_goto (tgt := 171) dJ4_removeNode_153 (by decide) ?_
                  refine aw_locals ?_ (found (done ++ [p]) [] p hlz' (Or.inr ⟨done, rfl⟩))
                  exact ⟨rfl, rfl, rfl, rfl, rfl, rfl, trivial⟩
              · skip
                refine aw_icmp_ne (tgt := 156) (q := 124) dJ4_removeNode_121 (by decide) rfl (fun _ => ?_) (fun hZ => absurd hZ ((fun q => hzh ((nI_eq (by omega) (by omega)).mp q))))
                first | refine aw_aload (q := 158) dJ4_removeNode_156 rfl rfl ?_ | refine aw_aloadN (q := 158) dJ4_removeNode_156 rfl rfl ?_ | refine aw_aloadQ (q := 158) dJ4_removeNode_156 rfl rfl ?_
                first | refine aw_astore (q := 160) dJ4_removeNode_158 (by decide) rfl ?_ | refine aw_astoreN (q := 160) dJ4_removeNode_158 (by decide) rfl ?_ | refine aw_astoreQ (q := 160) dJ4_removeNode_158 (by decide) rfl ?_
                try simp (config := {decide := true}) only [zput, zdel_q, zdel_f, zdel_t, zdel_nil, zdel_r, zdel_i, zdel_n]
                first | refine aw_aload (q := 162) dJ4_removeNode_160 rfl rfl ?_ | refine aw_aloadN (q := 162) dJ4_removeNode_160 rfl rfl ?_ | refine aw_aloadQ (q := 162) dJ4_removeNode_160 rfl rfl ?_
                first | refine aw_getfield (q := 165) dJ4_removeNode_162 gf_J4_177_13 (by assumption) rfl rfl ?_ | refine aw_getfield (q := 165) dJ4_removeNode_162 gf_J4_177_15 (by assumption) rfl rfl ?_ | refine aw_nd (i := 3) (q := 165) dJ4_removeNode_162 gf_J4_177_13 gf_J4_177_15 (by assumption) rfl rfl ?_
                refine aw_dup (q := 166) dJ4_removeNode_165 (by first | rfl | exact zcat_rf _) rfl ?_
                first | refine aw_astore (q := 168) dJ4_removeNode_166 (by decide) rfl ?_ | refine aw_astoreN (q := 168) dJ4_removeNode_166 (by decide) rfl ?_ | refine aw_astoreQ (q := 168) dJ4_removeNode_166 (by decide) rfl ?_
                try simp (config := {decide := true}) only [zput, zdel_q, zdel_f, zdel_t, zdel_nil, zdel_r, zdel_i, zdel_n]
                refine aw_ifnonnull_n (q := 171) dJ4_removeNode_168 rfl ?_
                refine aw_locals ?_ (none_ (fun q => ?_))
                · exact ⟨rfl, trivial⟩
                · rw [hiff, hlz] at q
                  rcases List.mem_append.mp q with q | q
                  · exact hno h (List.mem_append_left _ q) rfl
                  · rcases List.mem_cons.mp q with q | q
                    · exact hno h (q ▸ List.mem_append_right _ List.mem_cons_self) rfl
                    · exact hzh (List.mem_singleton.mp q).symm
            | cons v rest ih =>
              intro done p z hlz hno
              have hzl : z ∈ L (h % n) := by rw [hlz]; exact List.mem_append_right _ (List.mem_cons_of_mem _ List.mem_cons_self)
              obtain ⟨hz8, hz1⟩ := hP z hzl
              have hnz : nx z = some v := by
                have : ∀ {l1 : List Nat}, zCh nx (l1 ++ p :: z :: v :: rest) → nx z = some v := by
                  intro l1
                  induction l1 with
                  | nil => intro q; exact q.2.1
                  | cons v l1 ih => intro q; exact ih q.2
                exact this (hlz ▸ hcL)
              rw [hnz] at hz1
              simp only [Option.map_some, zrf_s] at hz1
              first | refine aw_aload (q := 117) dJ4_removeNode_115 rfl rfl ?_ | refine aw_aloadN (q := 117) dJ4_removeNode_115 rfl rfl ?_ | refine aw_aloadQ (q := 117) dJ4_removeNode_115 rfl rfl ?_
              first | refine aw_getfield (q := 120) dJ4_removeNode_117 gf_J4_168_13 (by assumption) rfl rfl ?_ | refine aw_getfield (q := 120) dJ4_removeNode_117 gf_J4_168_15 (by assumption) rfl rfl ?_ | refine aw_nd (i := 0) (q := 120) dJ4_removeNode_117 gf_J4_168_13 gf_J4_168_15 (by assumption) rfl rfl ?_
              refine aw_iload_n (i := 1) (q := 121) dJ4_removeNode_120 rfl rfl rfl ?_
              by_cases hzh : z = h
              · subst hzh
                have hkz := h3 z (hiff.mpr hzl)
                have hlz' : L (z % n) = (done ++ [p]) ++ z :: (v :: rest) := by rw [hlz, List.append_assoc]; rfl
                refine aw_icmp_ne (tgt := 156) (q := 124) dJ4_removeNode_121 (by decide) rfl (fun hZ => absurd (rfl) hZ) (fun _ => ?_)
                first | refine aw_aload (q := 126) dJ4_removeNode_124 rfl rfl ?_ | refine aw_aloadN (q := 126) dJ4_removeNode_124 rfl rfl ?_ | refine aw_aloadQ (q := 126) dJ4_removeNode_124 rfl rfl ?_
                first | refine aw_getfield (q := 129) dJ4_removeNode_126 gf_J4_170_13 (by assumption) rfl rfl ?_ | refine aw_getfield (q := 129) dJ4_removeNode_126 gf_J4_170_15 (by assumption) rfl rfl ?_ | refine aw_nd (i := 1) (q := 129) dJ4_removeNode_126 gf_J4_170_13 gf_J4_170_15 (by assumption) rfl rfl ?_
                refine aw_dup (q := 130) dJ4_removeNode_129 (by first | rfl | exact zcat_rf _) rfl ?_
                first | refine aw_astore (q := 132) dJ4_removeNode_130 (by decide) rfl ?_ | refine aw_astoreN (q := 132) dJ4_removeNode_130 (by decide) rfl ?_ | refine aw_astoreQ (q := 132) dJ4_removeNode_130 (by decide) rfl ?_
                try simp (config := {decide := true}) only [zput, zdel_q, zdel_f, zdel_t, zdel_nil, zdel_r, zdel_i, zdel_n]
                first | refine aw_aload_n (i := 2) (q := 133) dJ4_removeNode_132 rfl rfl rfl ?_ | refine aw_aloadN_n (i := 2) (q := 133) dJ4_removeNode_132 rfl rfl rfl ?_ | refine aw_aloadQ_n (i := 2) (q := 133) dJ4_removeNode_132 rfl rfl rfl ?_
                first | refine aw_acmpR_eq (tgt := 149) (q := 136) dJ4_removeNode_133 (by decide) rfl (fun hcc => ?_) (fun hcc => ?_)
                · first | refine aw_aload (q := 151) dJ4_removeNode_149 rfl rfl ?_ | refine aw_aloadN (q := 151) dJ4_removeNode_149 rfl rfl ?_ | refine aw_aloadQ (q := 151) dJ4_removeNode_149 rfl rfl ?_
                  first | refine aw_astore (q := 153) dJ4_removeNode_151 (by decide) rfl ?_ | refine aw_astoreN (q := 153) dJ4_removeNode_151 (by decide) rfl ?_ | refine aw_astoreQ (q := 153) dJ4_removeNode_151 (by decide) rfl ?_
                  refine aw_goto (tgt := 171) dJ4_removeNode_153 (by decide) ?_
                  refine aw_locals ?_ (found (done ++ [p]) (v :: rest) p hlz' (Or.inr ⟨done, rfl⟩))
                  exact ⟨rfl, rfl, rfl, rfl, rfl, rfl, trivial⟩
                · first | refine aw_aload_n (i := 2) (q := 137) dJ4_removeNode_136 rfl rfl rfl ?_ | refine aw_aloadN_n (i := 2) (q := 137) dJ4_removeNode_136 rfl rfl rfl ?_ | refine aw_aloadQ_n (i := 2) (q := 137) dJ4_removeNode_136 rfl rfl rfl ?_
                  refine aw_ifnull_r (q := 140) dJ4_removeNode_137 rfl ?_
                  first | refine aw_aload_n (i := 2) (q := 141) dJ4_removeNode_140 rfl rfl rfl ?_ | refine aw_aloadN_n (i := 2) (q := 141) dJ4_removeNode_140 rfl rfl rfl ?_ | refine aw_aloadQ_n (i := 2) (q := 141) dJ4_removeNode_140 rfl rfl rfl ?_
                  first | refine aw_aload (q := 143) dJ4_removeNode_141 rfl rfl ?_ | refine aw_aloadN (q := 143) dJ4_removeNode_141 rfl rfl ?_ | refine aw_aloadQ (q := 143) dJ4_removeNode_141 rfl rfl ?_
                  refine aw_callU (q := 146) dJ4_removeNode_143 (C_Time_equals hk hkz) cu_J4_173_8 (by assumption) rfl rfl (by decide) (by decide) (by first | exact Nat.le_of_ble_eq_true rfl | simp [zcat_rf, Value.category]) rfl (zpk ?_)
                  refine aw_if_eq (tgt := 156) (q := 149) dJ4_removeNode_146 (by decide) rfl (fun hZ => absurd hZ (by (rw [zB_t ⟨rfl, rfl⟩]; decide))) (fun _ => ?_)
                  first | refine aw_aload (q := 151) dJ4_removeNode_149 rfl rfl ?_ | refine aw_aloadN (q := 151) dJ4_removeNode_149 rfl rfl ?_ | refine aw_aloadQ (q := 151) dJ4_removeNode_149 rfl rfl ?_
                  first | refine aw_astore (q := 153) dJ4_removeNode_151 (by decide) rfl ?_ | refine aw_astoreN (q := 153) dJ4_removeNode_151 (by decide) rfl ?_ | refine aw_astoreQ (q := 153) dJ4_removeNode_151 (by decide) rfl ?_
                  refine aw_goto (tgt := 171) dJ4_removeNode_153 (by decide) ?_
                  refine aw_locals ?_ (found (done ++ [p]) (v :: rest) p hlz' (Or.inr ⟨done, rfl⟩))
                  exact ⟨rfl, rfl, rfl, rfl, rfl, rfl, trivial⟩
              · skip
                refine aw_icmp_ne (tgt := 156) (q := 124) dJ4_removeNode_121 (by decide) rfl (fun _ => ?_) (fun hZ => absurd hZ ((fun q => hzh ((nI_eq (by omega) (by omega)).mp q))))
                first | refine aw_aload (q := 158) dJ4_removeNode_156 rfl rfl ?_ | refine aw_aloadN (q := 158) dJ4_removeNode_156 rfl rfl ?_ | refine aw_aloadQ (q := 158) dJ4_removeNode_156 rfl rfl ?_
                first | refine aw_astore (q := 160) dJ4_removeNode_158 (by decide) rfl ?_ | refine aw_astoreN (q := 160) dJ4_removeNode_158 (by decide) rfl ?_ | refine aw_astoreQ (q := 160) dJ4_removeNode_158 (by decide) rfl ?_
                try simp (config := {decide := true}) only [zput, zdel_q, zdel_f, zdel_t, zdel_nil, zdel_r, zdel_i, zdel_n]
                first | refine aw_aload (q := 162) dJ4_removeNode_160 rfl rfl ?_ | refine aw_aloadN (q := 162) dJ4_removeNode_160 rfl rfl ?_ | refine aw_aloadQ (q := 162) dJ4_removeNode_160 rfl rfl ?_
                first | refine aw_getfield (q := 165) dJ4_removeNode_162 gf_J4_177_13 (by assumption) rfl rfl ?_ | refine aw_getfield (q := 165) dJ4_removeNode_162 gf_J4_177_15 (by assumption) rfl rfl ?_ | refine aw_nd (i := 3) (q := 165) dJ4_removeNode_162 gf_J4_177_13 gf_J4_177_15 (by assumption) rfl rfl ?_
                refine aw_dup (q := 166) dJ4_removeNode_165 (by first | rfl | exact zcat_rf _) rfl ?_
                first | refine aw_astore (q := 168) dJ4_removeNode_166 (by decide) rfl ?_ | refine aw_astoreN (q := 168) dJ4_removeNode_166 (by decide) rfl ?_ | refine aw_astoreQ (q := 168) dJ4_removeNode_166 (by decide) rfl ?_
                try simp (config := {decide := true}) only [zput, zdel_q, zdel_f, zdel_t, zdel_nil, zdel_r, zdel_i, zdel_n]
                refine aw_ifnonnull_r (tgt := 115) dJ4_removeNode_168 (by decide) ?_
                refine aw_locals ?_ (ih (done ++ [p]) z v (by rw [hlz, List.append_assoc]; rfl) (fun u hu => (List.mem_append.mp hu).elim (hno u) (fun q => by rw [List.mem_singleton.mp q]; exact hzh)))
                exact ⟨rfl, rfl, rfl, rfl, rfl, rfl, rfl, rfl, rfl, trivial⟩
          refine aw_locals ?_ (loop l' [] x y (by rw [hL, hl]; rfl) (fun v hv => by rw [List.mem_singleton.mp hv]; exact hxh))
          exact ⟨rfl, rfl, rfl, rfl, rfl, rfl, rfl, rfl, rfl, trivial⟩
  · try simp only [zrf_n] at h20
    refine meets_of (by decide +kernel) (Nat.le_of_ble_eq_true rfl) ?_
    first | refine aw_aload_n (i := 0) (q := 1) dJ4_removeNode_0 rfl rfl rfl ?_ | refine aw_aloadN_n (i := 0) (q := 1) dJ4_removeNode_0 rfl rfl rfl ?_ | refine aw_aloadQ_n (i := 0) (q := 1) dJ4_removeNode_0 rfl rfl rfl ?_
    refine aw_getfield (q := 4) dJ4_removeNode_1 gf_J4_105_19 (by assumption) rfl rfl ?_
    refine aw_dup (q := 5) dJ4_removeNode_4 (by first | rfl | exact zcat_rf _) rfl ?_
    first | refine aw_astore (q := 7) dJ4_removeNode_5 (by decide) rfl ?_ | refine aw_astoreN (q := 7) dJ4_removeNode_5 (by decide) rfl ?_ | refine aw_astoreQ (q := 7) dJ4_removeNode_5 (by decide) rfl ?_
    refine aw_ifnull_n (tgt := 289) dJ4_removeNode_7 (by decide) ?_
    exact AW.bud (aw_locals (by exact trivial) (stop List.not_mem_nil)) (by omega) (by omega)
theorem C_HM_remove {m k h kk : Nat} {ks : List Nat} {val : Nat → Nat} (hm : zHMk G μ R o m k true ks val) (hk : μ kk = some ((0, 0), oTime (nI (h / 6)) (nI (h % 6)))) (h8 : h < 8192) (hS : ks.length ≤ 125) (hR : 1 ≤ R) : Meets G 3 MJ4_remove [.ref m, .ref kk] μ (fun v μ' => v = some (va_rf (if h ∈ ks then some (G.2.2.2 (228 + val h)) else none)) ∧ zHMk G μ' R o m k true (zDel h ks) val ∧ zKp (zMt R o) μ μ') 0 0 := by
  obtain ⟨fs, hobj⟩ : ∃ fs, μ m = some (hmT R o, .inr (19, fs)) := by
    rcases hm with ⟨tb, es, mc, ⟨h1, -⟩, -⟩ | ⟨-, -, es, mc, thr, ⟨h2, -⟩, -⟩
    · exact ⟨_, h1⟩
    · exact ⟨_, h2⟩
  refine meets_of (by decide +kernel) (Nat.le_of_ble_eq_true rfl) ?_
  first | refine aw_aload_n (i := 0) (q := 1) dJ4_remove_0 rfl rfl rfl ?_ | refine aw_aloadN_n (i := 0) (q := 1) dJ4_remove_0 rfl rfl rfl ?_ | refine aw_aloadQ_n (i := 0) (q := 1) dJ4_remove_0 rfl rfl rfl ?_
  first | refine aw_aload_n (i := 1) (q := 2) dJ4_remove_1 rfl rfl rfl ?_ | refine aw_aloadN_n (i := 1) (q := 2) dJ4_remove_1 rfl rfl rfl ?_ | refine aw_aloadQ_n (i := 1) (q := 2) dJ4_remove_1 rfl rfl rfl ?_
  refine aw_callS (q := 5) dJ4_remove_2 (C_hash hk (by omega)) cs_J4_149 rfl rfl (by decide) (by decide) (by first | exact Nat.le_of_ble_eq_true rfl | simp [zcat_rf, Value.category]) rfl (zpk ?_)
  first | refine aw_aload_n (i := 1) (q := 6) dJ4_remove_5 rfl rfl rfl ?_ | refine aw_aloadN_n (i := 1) (q := 6) dJ4_remove_5 rfl rfl rfl ?_ | refine aw_aloadQ_n (i := 1) (q := 6) dJ4_remove_5 rfl rfl rfl ?_
  refine aw_null (q := 7) dJ4_remove_6 rfl ?_
  refine aw_iconst (v := 0) (q := 8) dJ4_remove_7 rfl rfl ?_
  refine aw_iconst (v := 1) (q := 9) dJ4_remove_8 rfl rfl ?_
  refine aw_callV (q := 12) dJ4_remove_9 (C_removeNode hm hk h8 hS hR) cv_J4_228_19 (by assumption) rfl rfl (by decide) (by decide) (by first | exact Nat.le_of_ble_eq_true rfl | simp [zcat_rf, Value.category]) rfl (fun v9 μ1 hp => ?_)
  have hr := hp
  rcases hr with ⟨h1, rfl, rfl⟩ | ⟨h1, c, ky, nx, rfl, h2, h3, h4⟩
  · rw [if_neg h1, zDel_none h1]
    refine aw_dup (q := 13) dJ4_remove_12 (by first | rfl | exact zcat_rf _) rfl ?_
    first | refine aw_astore_n (i := 2) (q := 14) dJ4_remove_13 rfl (by decide) rfl ?_ | refine aw_astoreN_n (i := 2) (q := 14) dJ4_remove_13 rfl (by decide) rfl ?_ | refine aw_astoreQ_n (i := 2) (q := 14) dJ4_remove_13 rfl (by decide) rfl ?_
    refine aw_ifnonnull_n (q := 17) dJ4_remove_14 rfl ?_
    refine aw_null (q := 18) dJ4_remove_17 rfl ?_
    refine aw_goto (tgt := 25) dJ4_remove_18 (by decide) ?_
    exact aw_areturnN dJ4_remove_25 rfl (by first | exact Or.inl ⟨_, rfl⟩ | exact Or.inr ⟨_, rfl⟩) (⟨rfl, hm, zKp.rf⟩)
  · rw [if_pos h1]
    refine aw_dup (q := 13) dJ4_remove_12 (by first | rfl | exact zcat_rf _) rfl ?_
    first | refine aw_astore_n (i := 2) (q := 14) dJ4_remove_13 rfl (by decide) rfl ?_ | refine aw_astoreN_n (i := 2) (q := 14) dJ4_remove_13 rfl (by decide) rfl ?_ | refine aw_astoreQ_n (i := 2) (q := 14) dJ4_remove_13 rfl (by decide) rfl ?_
    refine aw_ifnonnull_r (tgt := 21) dJ4_remove_14 (by decide) ?_
    first | refine aw_aload_n (i := 2) (q := 22) dJ4_remove_21 rfl rfl rfl ?_ | refine aw_aloadN_n (i := 2) (q := 22) dJ4_remove_21 rfl rfl rfl ?_ | refine aw_aloadQ_n (i := 2) (q := 22) dJ4_remove_21 rfl rfl rfl ?_
    first | refine aw_getfield (q := 25) dJ4_remove_22 gf_J4_162_13 (by assumption) rfl rfl ?_ | refine aw_getfield (q := 25) dJ4_remove_22 gf_J4_162_15 (by assumption) rfl rfl ?_ | refine aw_nd (i := 2) (q := 25) dJ4_remove_22 gf_J4_162_13 gf_J4_162_15 (by assumption) rfl rfl ?_
    exact aw_areturnR dJ4_remove_25 rfl (by first | exact Or.inl ⟨_, rfl⟩ | exact Or.inr ⟨_, rfl⟩) (⟨rfl, h2, h3⟩)
end ZRM
