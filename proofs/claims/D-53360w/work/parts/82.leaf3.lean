/-! LEAF classes, part 3: Booking, Promise, Order -/
set_option maxRecDepth 100000
theorem zB_fit (p : Prop) [Decidable p] : fits .boolean (.int (zB p)) = true := by unfold zB; split <;> rfl
section ZLF3
variable {G : zG} {μ : zM}
/-- a new object with an array of its own -/
def zNewA (G : zG) (μ : zM) (a : Nat) (u uf : zT) (n : Nat) (o : Nat → va_E) (f : Nat → Int32) : zM → Prop := fun μ' => ∃ r f', r ≠ a ∧ μ r = none ∧ μ' a = some (u, o r) ∧ μ' r = some (uf, aI G n f') ∧ (∀ j, j < n → f' j = f j) ∧ zKp (fun c _ => c = a) μ μ'
theorem C_Bk_init2 {a : Nat} {u uf : zT} {sh se sc co : Int32} {pb : Prop} [Decidable pb] (ha : μ a = some (u, .inr (6, [.int 0, .int 0, .int 0, .int 0, .int 0, .int 0, .int 0, .null]))) (hu : u ≠ zC) (huf : uf ≠ zC) : Meets G 2 MX6_init_2 [.ref a, .int sh, .int se, .int sc, .int (zB pb), .int co] μ (fun v μ' => v = none ∧ zNewA G μ a u uf 8 (oBk sh se sc (zB pb) co 0 0) (fun _ => 0) μ') 1 8 := by
  refine meets_of (by decide +kernel) (Nat.le_of_ble_eq_true rfl) ?_
  first | refine aw_aload_n (i := 0) (q := 1) dX6_init_2_0 rfl rfl rfl ?_ | refine aw_aloadN_n (i := 0) (q := 1) dX6_init_2_0 rfl rfl rfl ?_ | refine aw_aloadQ_n (i := 0) (q := 1) dX6_init_2_0 rfl rfl rfl ?_
  refine aw_objInit (q := 4) dX6_init_2_1 oi_X6_3 (by decide) (by first | exact Nat.le_of_ble_eq_true rfl | simp [zcat_rf, Value.category]) rfl ?_
  first | refine aw_aload_n (i := 0) (q := 5) dX6_init_2_4 rfl rfl rfl ?_ | refine aw_aloadN_n (i := 0) (q := 5) dX6_init_2_4 rfl rfl rfl ?_ | refine aw_aloadQ_n (i := 0) (q := 5) dX6_init_2_4 rfl rfl rfl ?_
  refine aw_iconst (v := 0) (q := 6) dX6_init_2_5 rfl rfl ?_
  refine aw_putfield (q := 9) dX6_init_2_6 gf_X6_9_6 ha (by first | assumption | simp) (by first | rfl | exact znar_rf _ _ | exact zB_nar _) (by first | rfl | exact zfit_rf _ _ | exact zB_fit _) (Nat.le_of_ble_eq_true rfl) rfl (fun μ1 hg_μ1 => ?_)
  have ha : μ1 _ = some _ := hg_μ1 ▸ updM_eq _ _ _
  simp only [List.set] at ha hg_μ1
  have hk1 : zKp (fun c _ => c = a) μ μ1 := hg_μ1 ▸ zKp.up
  refine AW.bud (bc' := 0 + 1) (bs' := 0 + 8) ?_ (by omega) (by omega)
  first | refine aw_aload_n (i := 0) (q := 10) dX6_init_2_9 rfl rfl rfl ?_ | refine aw_aloadN_n (i := 0) (q := 10) dX6_init_2_9 rfl rfl rfl ?_ | refine aw_aloadQ_n (i := 0) (q := 10) dX6_init_2_9 rfl rfl rfl ?_
  refine aw_bipush (v := 8) (q := 12) dX6_init_2_10 rfl rfl ?_
  refine AW.sub (bc' := 1) (bs' := 8) (by omega) (by omega) ?_
  refine aw_newa (N := 8) (q := 14) dX6_init_2_12 rfl (by omega) uf (by first | assumption | simp) rfl (fun fr μ3 hn_fr hg_μ3 => ?_)
  have ha : μ3 _ = some _ := hg_μ3 ▸ (updM_ne (zneN ha hn_fr)).trans ha
  have h_fr : μ3 fr = some _ := hg_μ3 ▸ updM_eq _ _ _
  have hk3 : zKp (fun c _ => c = a) μ1 μ3 := hg_μ3 ▸ zKp.new hn_fr
  have ne : fr ≠ a := fun e => by rw [e, hg_μ1, updM_eq] at hn_fr; cases hn_fr
  have hfr0 : μ fr = none := by
    rw [hg_μ1, updM_ne ne] at hn_fr
    exact hn_fr
  refine aw_putF (q := 17) dX6_init_2_14 pf_X6_15_6 rfl ha (by first | assumption | simp) (by first | rfl | exact znar_rf _ _ | exact zB_nar _) (by first | rfl | exact zfit_rf _ _ | exact zB_fit _) (Nat.le_of_ble_eq_true rfl) rfl (fun μ4 hg_μ4 => ?_)
  have h_fr : μ4 _ = some _ := hg_μ4 ▸ (updM_ne ne).trans h_fr
  have ha : μ4 _ = some _ := hg_μ4 ▸ updM_eq _ _ _
  simp only [List.set] at ha hg_μ4
  have hk4 : zKp (fun c _ => c = a) μ3 μ4 := hg_μ4 ▸ zKp.up
  first | refine aw_aload_n (i := 0) (q := 18) dX6_init_2_17 rfl rfl rfl ?_ | refine aw_aloadN_n (i := 0) (q := 18) dX6_init_2_17 rfl rfl rfl ?_ | refine aw_aloadQ_n (i := 0) (q := 18) dX6_init_2_17 rfl rfl rfl ?_
  refine aw_iload_n (i := 1) (q := 19) dX6_init_2_18 rfl rfl rfl ?_
  refine aw_putF (q := 22) dX6_init_2_19 pf_X6_19_6 rfl ha (by first | assumption | simp) (by first | rfl | exact znar_rf _ _ | exact zB_nar _) (by first | rfl | exact zfit_rf _ _ | exact zB_fit _) (Nat.le_of_ble_eq_true rfl) rfl (fun μ5 hg_μ5 => ?_)
  have h_fr : μ5 _ = some _ := hg_μ5 ▸ (updM_ne ne).trans h_fr
  have ha : μ5 _ = some _ := hg_μ5 ▸ updM_eq _ _ _
  simp only [List.set] at ha hg_μ5
  have hk5 : zKp (fun c _ => c = a) μ4 μ5 := hg_μ5 ▸ zKp.up
  first | refine aw_aload_n (i := 0) (q := 23) dX6_init_2_22 rfl rfl rfl ?_ | refine aw_aloadN_n (i := 0) (q := 23) dX6_init_2_22 rfl rfl rfl ?_ | refine aw_aloadQ_n (i := 0) (q := 23) dX6_init_2_22 rfl rfl rfl ?_
  refine aw_iload_n (i := 2) (q := 24) dX6_init_2_23 rfl rfl rfl ?_
  refine aw_putF (q := 27) dX6_init_2_24 pf_X6_22_6 rfl ha (by first | assumption | simp) (by first | rfl | exact znar_rf _ _ | exact zB_nar _) (by first | rfl | exact zfit_rf _ _ | exact zB_fit _) (Nat.le_of_ble_eq_true rfl) rfl (fun μ6 hg_μ6 => ?_)
  have h_fr : μ6 _ = some _ := hg_μ6 ▸ (updM_ne ne).trans h_fr
  have ha : μ6 _ = some _ := hg_μ6 ▸ updM_eq _ _ _
  simp only [List.set] at ha hg_μ6
  have hk6 : zKp (fun c _ => c = a) μ5 μ6 := hg_μ6 ▸ zKp.up
  first | refine aw_aload_n (i := 0) (q := 28) dX6_init_2_27 rfl rfl rfl ?_ | refine aw_aloadN_n (i := 0) (q := 28) dX6_init_2_27 rfl rfl rfl ?_ | refine aw_aloadQ_n (i := 0) (q := 28) dX6_init_2_27 rfl rfl rfl ?_
  refine aw_iload_n (i := 3) (q := 29) dX6_init_2_28 rfl rfl rfl ?_
  refine aw_putF (q := 32) dX6_init_2_29 pf_X6_25_6 rfl ha (by first | assumption | simp) (by first | rfl | exact znar_rf _ _ | exact zB_nar _) (by first | rfl | exact zfit_rf _ _ | exact zB_fit _) (Nat.le_of_ble_eq_true rfl) rfl (fun μ7 hg_μ7 => ?_)
  have h_fr : μ7 _ = some _ := hg_μ7 ▸ (updM_ne ne).trans h_fr
  have ha : μ7 _ = some _ := hg_μ7 ▸ updM_eq _ _ _
  simp only [List.set] at ha hg_μ7
  have hk7 : zKp (fun c _ => c = a) μ6 μ7 := hg_μ7 ▸ zKp.up
  first | refine aw_aload_n (i := 0) (q := 33) dX6_init_2_32 rfl rfl rfl ?_ | refine aw_aloadN_n (i := 0) (q := 33) dX6_init_2_32 rfl rfl rfl ?_ | refine aw_aloadQ_n (i := 0) (q := 33) dX6_init_2_32 rfl rfl rfl ?_
  refine aw_iload (q := 35) dX6_init_2_33 rfl rfl ?_
  refine aw_putF (q := 38) dX6_init_2_35 pf_X6_28_6 rfl ha (by first | assumption | simp) (by first | rfl | exact znar_rf _ _ | exact zB_nar _) (by first | rfl | exact zfit_rf _ _ | exact zB_fit _) (Nat.le_of_ble_eq_true rfl) rfl (fun μ8 hg_μ8 => ?_)
  have h_fr : μ8 _ = some _ := hg_μ8 ▸ (updM_ne ne).trans h_fr
  have ha : μ8 _ = some _ := hg_μ8 ▸ updM_eq _ _ _
  simp only [List.set] at ha hg_μ8
  have hk8 : zKp (fun c _ => c = a) μ7 μ8 := hg_μ8 ▸ zKp.up
  first | refine aw_aload_n (i := 0) (q := 39) dX6_init_2_38 rfl rfl rfl ?_ | refine aw_aloadN_n (i := 0) (q := 39) dX6_init_2_38 rfl rfl rfl ?_ | refine aw_aloadQ_n (i := 0) (q := 39) dX6_init_2_38 rfl rfl rfl ?_
  refine aw_iload (q := 41) dX6_init_2_39 rfl rfl ?_
  refine aw_putF (q := 44) dX6_init_2_41 pf_X6_32_6 rfl ha (by first | assumption | simp) (by first | rfl | exact znar_rf _ _ | exact zB_nar _) (by first | rfl | exact zfit_rf _ _ | exact zB_fit _) (Nat.le_of_ble_eq_true rfl) rfl (fun μ9 hg_μ9 => ?_)
  have h_fr : μ9 _ = some _ := hg_μ9 ▸ (updM_ne ne).trans h_fr
  have ha : μ9 _ = some _ := hg_μ9 ▸ updM_eq _ _ _
  simp only [List.set] at ha hg_μ9
  have hk9 : zKp (fun c _ => c = a) μ8 μ9 := hg_μ9 ▸ zKp.up
  exact aw_return dX6_init_2_44 rfl (⟨rfl, fr, _, ne, hfr0, ha, h_fr, fun j hj => rfl, ((((((hk1.tr hk3).tr hk4).tr hk5).tr hk6).tr hk7).tr hk8).tr hk9⟩)
theorem C_Bk_init {a b fb : Nat} {u uf tb tf : zT} {sh se sc co st rf : Int32} {pb : Prop} [Decidable pb] {f : Nat → Int32} (ha : μ a = some (u, .inr (6, [.int 0, .int 0, .int 0, .int 0, .int 0, .int 0, .int 0, .null]))) (hu : u ≠ zC) (huf : uf ≠ zC) (hb : μ b = some (tb, oBk sh se sc (zB pb) co st rf fb)) (hf : μ fb = some (tf, aI G 8 f)) (hne : b ≠ a) : Meets G 3 MX6_init [.ref a, .ref b] μ (fun v μ' => v = none ∧ zNewA G μ a u uf 8 (oBk sh se sc (zB pb) co st rf) f μ') 1 8 := by
  have hfa : fb ≠ a := zneq hf ha (by simp)
  have hf0 := hf
  refine meets_of (by decide +kernel) (Nat.le_of_ble_eq_true rfl) ?_
  refine AW.bud (bc' := 0 + 1) (bs' := 0 + 8) ?_ (by omega) (by omega)
  first | refine aw_aload_n (i := 0) (q := 1) dX6_init_0 rfl rfl rfl ?_ | refine aw_aloadN_n (i := 0) (q := 1) dX6_init_0 rfl rfl rfl ?_ | refine aw_aloadQ_n (i := 0) (q := 1) dX6_init_0 rfl rfl rfl ?_
  first | refine aw_aload_n (i := 1) (q := 2) dX6_init_1 rfl rfl rfl ?_ | refine aw_aloadN_n (i := 1) (q := 2) dX6_init_1 rfl rfl rfl ?_ | refine aw_aloadQ_n (i := 1) (q := 2) dX6_init_1 rfl rfl rfl ?_
  refine aw_getfield (q := 5) dX6_init_2 gf_X6_19_6 (by assumption) rfl rfl ?_
  first | refine aw_aload_n (i := 1) (q := 6) dX6_init_5 rfl rfl rfl ?_ | refine aw_aloadN_n (i := 1) (q := 6) dX6_init_5 rfl rfl rfl ?_ | refine aw_aloadQ_n (i := 1) (q := 6) dX6_init_5 rfl rfl rfl ?_
  refine aw_getfield (q := 9) dX6_init_6 gf_X6_22_6 (by assumption) rfl rfl ?_
  first | refine aw_aload_n (i := 1) (q := 10) dX6_init_9 rfl rfl rfl ?_ | refine aw_aloadN_n (i := 1) (q := 10) dX6_init_9 rfl rfl rfl ?_ | refine aw_aloadQ_n (i := 1) (q := 10) dX6_init_9 rfl rfl rfl ?_
  refine aw_getfield (q := 13) dX6_init_10 gf_X6_25_6 (by assumption) rfl rfl ?_
  first | refine aw_aload_n (i := 1) (q := 14) dX6_init_13 rfl rfl rfl ?_ | refine aw_aloadN_n (i := 1) (q := 14) dX6_init_13 rfl rfl rfl ?_ | refine aw_aloadQ_n (i := 1) (q := 14) dX6_init_13 rfl rfl rfl ?_
  refine aw_getfield (q := 17) dX6_init_14 gf_X6_28_6 (by assumption) rfl rfl ?_
  first | refine aw_aload_n (i := 1) (q := 18) dX6_init_17 rfl rfl rfl ?_ | refine aw_aloadN_n (i := 1) (q := 18) dX6_init_17 rfl rfl rfl ?_ | refine aw_aloadQ_n (i := 1) (q := 18) dX6_init_17 rfl rfl rfl ?_
  refine aw_getfield (q := 21) dX6_init_18 gf_X6_32_6 (by assumption) rfl rfl ?_
  refine aw_callI (q := 24) dX6_init_21 (C_Bk_init2 ha hu huf) ci_X6_35 rfl rfl (by decide) (by decide) (by first | exact Nat.le_of_ble_eq_true rfl | simp [zcat_rf, Value.category]) rfl (fun v21 μ1 hp => ?_)
  obtain ⟨rfl, fr, f', ne, hfr0, ha, hfr, -, hk1⟩ := hp
  have hb : μ1 b = _ := hk1 _ _ _ hb hne
  have hf : μ1 fb = _ := hk1 _ _ _ hf hfa
  have nef : fb ≠ fr := fun e => by rw [e, hfr0] at hf0; cases hf0
  first | refine aw_aload_n (i := 0) (q := 25) dX6_init_24 rfl rfl rfl ?_ | refine aw_aloadN_n (i := 0) (q := 25) dX6_init_24 rfl rfl rfl ?_ | refine aw_aloadQ_n (i := 0) (q := 25) dX6_init_24 rfl rfl rfl ?_
  first | refine aw_aload_n (i := 1) (q := 26) dX6_init_25 rfl rfl rfl ?_ | refine aw_aloadN_n (i := 1) (q := 26) dX6_init_25 rfl rfl rfl ?_ | refine aw_aloadQ_n (i := 1) (q := 26) dX6_init_25 rfl rfl rfl ?_
  refine aw_getfield (q := 29) dX6_init_26 gf_X6_9_6 (by assumption) rfl rfl ?_
  refine aw_putfield (q := 32) dX6_init_29 gf_X6_9_6 ha (by first | assumption | simp) (by first | rfl | exact znar_rf _ _ | exact zB_nar _) (by first | rfl | exact zfit_rf _ _ | exact zB_fit _) (Nat.le_of_ble_eq_true rfl) rfl (fun μ2 hg_μ2 => ?_)
  have hb : μ2 _ = some _ := hg_μ2 ▸ (updM_ne hne).trans hb
  have hf : μ2 _ = some _ := hg_μ2 ▸ (updM_ne hfa).trans hf
  have hfr : μ2 _ = some _ := hg_μ2 ▸ (updM_ne ne).trans hfr
  have ha : μ2 _ = some _ := hg_μ2 ▸ updM_eq _ _ _
  simp only [List.set] at ha hg_μ2
  have hk2 : zKp (fun c _ => c = a) μ1 μ2 := hg_μ2 ▸ zKp.up
  first | refine aw_aload_n (i := 0) (q := 33) dX6_init_32 rfl rfl rfl ?_ | refine aw_aloadN_n (i := 0) (q := 33) dX6_init_32 rfl rfl rfl ?_ | refine aw_aloadQ_n (i := 0) (q := 33) dX6_init_32 rfl rfl rfl ?_
  first | refine aw_aload_n (i := 1) (q := 34) dX6_init_33 rfl rfl rfl ?_ | refine aw_aloadN_n (i := 1) (q := 34) dX6_init_33 rfl rfl rfl ?_ | refine aw_aloadQ_n (i := 1) (q := 34) dX6_init_33 rfl rfl rfl ?_
  refine aw_getfield (q := 37) dX6_init_34 gf_X6_38_6 (by assumption) rfl rfl ?_
  refine aw_putfield (q := 40) dX6_init_37 gf_X6_38_6 ha (by first | assumption | simp) (by first | rfl | exact znar_rf _ _ | exact zB_nar _) (by first | rfl | exact zfit_rf _ _ | exact zB_fit _) (Nat.le_of_ble_eq_true rfl) rfl (fun μ3 hg_μ3 => ?_)
  have hb : μ3 _ = some _ := hg_μ3 ▸ (updM_ne hne).trans hb
  have hf : μ3 _ = some _ := hg_μ3 ▸ (updM_ne hfa).trans hf
  have hfr : μ3 _ = some _ := hg_μ3 ▸ (updM_ne ne).trans hfr
  have ha : μ3 _ = some _ := hg_μ3 ▸ updM_eq _ _ _
  simp only [List.set] at ha hg_μ3
  have hk3 : zKp (fun c _ => c = a) μ2 μ3 := hg_μ3 ▸ zKp.up
  first | refine aw_aload_n (i := 1) (q := 41) dX6_init_40 rfl rfl rfl ?_ | refine aw_aloadN_n (i := 1) (q := 41) dX6_init_40 rfl rfl rfl ?_ | refine aw_aloadQ_n (i := 1) (q := 41) dX6_init_40 rfl rfl rfl ?_
  refine aw_getfield (q := 44) dX6_init_41 gf_X6_15_6 (by assumption) rfl rfl ?_
  refine aw_iconst (v := 0) (q := 45) dX6_init_44 rfl rfl ?_
  first | refine aw_aload_n (i := 0) (q := 46) dX6_init_45 rfl rfl rfl ?_ | refine aw_aloadN_n (i := 0) (q := 46) dX6_init_45 rfl rfl rfl ?_ | refine aw_aloadQ_n (i := 0) (q := 46) dX6_init_45 rfl rfl rfl ?_
  refine aw_getfield (q := 49) dX6_init_46 gf_X6_15_6 (by assumption) rfl rfl ?_
  refine aw_iconst (v := 0) (q := 50) dX6_init_49 rfl rfl ?_
  refine aw_bipush (v := 8) (q := 52) dX6_init_50 rfl rfl ?_
  refine aw_copyX (j := 0) (sp := 0) (dp := 0) (n := 8) (q := 55) dX6_init_52 cp_X6_41 rfl rfl hf hfr huf rfl rfl rfl (by omega) (by omega) (by omega) (by omega) (fun i hi => rfl) (by decide) (Nat.le_of_ble_eq_true rfl) rfl (fun μ6 hg_μ6 => ?_)
  have ha : μ6 _ = some _ := hg_μ6 ▸ (updM_ne (Ne.symm ne)).trans ha
  have hfr : μ6 _ = some _ := hg_μ6 ▸ updM_eq _ _ _
  have hk6 : zKp (fun c _ => c = fr) μ3 μ6 := hg_μ6 ▸ zKp.up
  have hkk : zKp (fun c _ => c = a) μ μ6 := by
    intro c tc ec hc hn
    have ncf : c ≠ fr := fun q => by rw [q, hfr0] at hc; cases hc
    exact hk6 _ _ _ (hk3 _ _ _ (hk2 _ _ _ (hk1 _ _ _ hc hn) hn) hn) ncf
  exact aw_return dX6_init_55 rfl (⟨rfl, fr, _, ne, hfr0, ha, hfr, fun r hr => by (rw [pk_cpy_in (Nat.zero_le _) (by omega)]; simp), hkk⟩)
theorem C_Bk_leaves {b r s fr t : Nat} {tb tr ts tf : zT} {sh se sc bd co st rf x y k sst la wo mo : Int32} {f g : Nat → Int32} (hb : μ b = some (tb, oBk sh se sc bd co st rf r)) (hr : μ r = some (tr, aI G 8 g)) (hs : μ s = some (ts, oSh k t sst la wo mo fr)) (hf : μ fr = some (tf, aI G 8 f)) (htb : tb ≠ zC) (htr : tr ≠ zC) (htf : tf ≠ zC) (hne : tr ≠ tf) : Meets G 1 MX6_leaves [.ref b, .ref s, .int x, .int y] μ (fun v μ' => v = none ∧ ∃ f' g', μ' b = some (tb, oBk sh se sc bd co x y r) ∧ μ' r = some (tr, aI G 8 g') ∧ μ' fr = some (tf, aI G 8 f') ∧ (∀ j, j < 8 → f' j = f j + g j ∧ g' j = 0) ∧ zKp (fun c _ => c = b ∨ c = r ∨ c = fr) μ μ') 0 0 := by
  have n1 : r ≠ b := zneq hr hb (by simp)
  have n2 : fr ≠ b := zneq hf hb (by simp)
  have n3 : s ≠ b := zneq hs hb (by simp)
  have n4 : r ≠ fr := zneq hr hf (by simp [hne])
  have n5 : s ≠ r := zneq hs hr (by simp)
  have n6 : s ≠ fr := zneq hs hf (by simp)
  refine meets_of (by decide +kernel) (Nat.le_of_ble_eq_true rfl) ?_
  first | refine aw_aload_n (i := 0) (q := 1) dX6_leaves_0 rfl rfl rfl ?_ | refine aw_aloadN_n (i := 0) (q := 1) dX6_leaves_0 rfl rfl rfl ?_ | refine aw_aloadQ_n (i := 0) (q := 1) dX6_leaves_0 rfl rfl rfl ?_
  refine aw_iload_n (i := 2) (q := 2) dX6_leaves_1 rfl rfl rfl ?_
  refine aw_putfield (q := 5) dX6_leaves_2 gf_X6_9_6 hb (by first | assumption | simp) (by first | rfl | exact znar_rf _ _ | exact zB_nar _) (by first | rfl | exact zfit_rf _ _ | exact zB_fit _) (Nat.le_of_ble_eq_true rfl) rfl (fun μ1 hg_μ1 => ?_)
  have hr : μ1 _ = some _ := hg_μ1 ▸ (updM_ne n1).trans hr
  have hs : μ1 _ = some _ := hg_μ1 ▸ (updM_ne n3).trans hs
  have hf : μ1 _ = some _ := hg_μ1 ▸ (updM_ne n2).trans hf
  have hb : μ1 _ = some _ := hg_μ1 ▸ updM_eq _ _ _
  simp only [List.set] at hb hg_μ1
  have hk1 : zKp (fun c _ => c = b ∨ c = r ∨ c = fr) μ μ1 := hg_μ1 ▸ zKp.up.mono (fun _ _ q => Or.inl q)
  first | refine aw_aload_n (i := 0) (q := 6) dX6_leaves_5 rfl rfl rfl ?_ | refine aw_aloadN_n (i := 0) (q := 6) dX6_leaves_5 rfl rfl rfl ?_ | refine aw_aloadQ_n (i := 0) (q := 6) dX6_leaves_5 rfl rfl rfl ?_
  refine aw_iload_n (i := 3) (q := 7) dX6_leaves_6 rfl rfl rfl ?_
  refine aw_putfield (q := 10) dX6_leaves_7 gf_X6_38_6 hb (by first | assumption | simp) (by first | rfl | exact znar_rf _ _ | exact zB_nar _) (by first | rfl | exact zfit_rf _ _ | exact zB_fit _) (Nat.le_of_ble_eq_true rfl) rfl (fun μ2 hg_μ2 => ?_)
  have hr : μ2 _ = some _ := hg_μ2 ▸ (updM_ne n1).trans hr
  have hs : μ2 _ = some _ := hg_μ2 ▸ (updM_ne n3).trans hs
  have hf : μ2 _ = some _ := hg_μ2 ▸ (updM_ne n2).trans hf
  have hb : μ2 _ = some _ := hg_μ2 ▸ updM_eq _ _ _
  simp only [List.set] at hb hg_μ2
  have hk2 : zKp (fun c _ => c = b ∨ c = r ∨ c = fr) μ1 μ2 := hg_μ2 ▸ zKp.up.mono (fun _ _ q => Or.inl q)
  refine aw_iconst (v := 0) (q := 11) dX6_leaves_10 rfl rfl ?_
  refine aw_istore (q := 13) dX6_leaves_11 (by decide) rfl ?_
  have loop : ∀ n e, e + n = 8 → ∀ (μ1 : zM) (f' g' : Nat → Int32), (∀ j, j < e → f' j = f j + g j ∧ g' j = 0) → (∀ j, e ≤ j → f' j = f j ∧ g' j = g j) → μ1 b = some (tb, oBk sh se sc bd co x y r) → μ1 r = some (tr, aI G 8 g') → μ1 s = some (ts, oSh k t sst la wo mo fr) → μ1 fr = some (tf, aI G 8 f') → zKp (fun c _ => c = b ∨ c = r ∨ c = fr) μ μ1 → AW G 1 MX6_leaves (fun v μ' => v = none ∧ ∃ f' g', μ' b = some (tb, oBk sh se sc bd co x y r) ∧ μ' r = some (tr, aI G 8 g') ∧ μ' fr = some (tf, aI G 8 f') ∧ (∀ j, j < 8 → f' j = f j + g j ∧ g' j = 0) ∧ zKp (fun c _ => c = b ∨ c = r ∨ c = fr) μ μ') 0 0 13 [(0, .ref b), (1, .ref s), (4, .int (nI e))] [] μ1 := by
    intro n
    induction n with
    | zero =>
      intro e he μ1 f' g' h1 h2 hb hr hs hf hk
      refine aw_iload (q := 15) dX6_leaves_13 rfl rfl ?_
      refine aw_bipush (v := 8) (q := 17) dX6_leaves_15 rfl rfl ?_
      refine aw_icmp_ge (tgt := 51) (q := 20) dX6_leaves_17 (by decide) rfl (fun _ => ?_) (fun hZ => absurd (nI_le (a := 8) (by omega) (by omega)) hZ)
      exact aw_return dX6_leaves_51 rfl (⟨rfl, f', g', hb, hr, hf, fun j hj => h1 j (by omega), hk⟩)
    | succ n ih =>
      intro e he μ1 f' g' h1 h2 hb hr hs hf hk
      refine aw_iload (q := 15) dX6_leaves_13 rfl rfl ?_
      refine aw_bipush (v := 8) (q := 17) dX6_leaves_15 rfl rfl ?_
      refine aw_icmp_ge (tgt := 51) (q := 20) dX6_leaves_17 (by decide) rfl (fun hZ => absurd hZ (nI_ge (a := e) (b := 8) (by omega) (by omega))) (fun _ => ?_)
      first | refine aw_aload_n (i := 1) (q := 21) dX6_leaves_20 rfl rfl rfl ?_ | refine aw_aloadN_n (i := 1) (q := 21) dX6_leaves_20 rfl rfl rfl ?_ | refine aw_aloadQ_n (i := 1) (q := 21) dX6_leaves_20 rfl rfl rfl ?_
      refine aw_getfield (q := 24) dX6_leaves_21 gf_X6_47_5 (by assumption) rfl rfl ?_
      refine aw_iload (q := 26) dX6_leaves_24 rfl rfl ?_
      refine aw_dup2 (q := 27) dX6_leaves_26 (by first | rfl | exact zcat_rf _) (by first | rfl | exact zcat_rf _) rfl ?_
      refine aw_iald (q := 28) (v := f e) (e) dX6_leaves_27 hf (by first | assumption | (simp only [← nI_add, ← pk_mul]; rfl) | rfl) (by omega) (by omega) ((h2 e (Nat.le_refl _)).1) rfl ?_
      first | refine aw_aload_n (i := 0) (q := 29) dX6_leaves_28 rfl rfl rfl ?_ | refine aw_aloadN_n (i := 0) (q := 29) dX6_leaves_28 rfl rfl rfl ?_ | refine aw_aloadQ_n (i := 0) (q := 29) dX6_leaves_28 rfl rfl rfl ?_
      refine aw_getfield (q := 32) dX6_leaves_29 gf_X6_15_6 (by assumption) rfl rfl ?_
      refine aw_iload (q := 34) dX6_leaves_32 rfl rfl ?_
      refine aw_iald (q := 35) (v := g e) (e) dX6_leaves_34 hr (by first | assumption | (simp only [← nI_add, ← pk_mul]; rfl) | rfl) (by omega) (by omega) ((h2 e (Nat.le_refl _)).2) rfl ?_
      refine aw_iadd (q := 36) dX6_leaves_35 rfl ?_
      refine aw_iast (q := 37) (e) dX6_leaves_36 hf (by first | assumption | simp) (by first | assumption | (simp only [← nI_add, ← pk_mul]; rfl) | rfl) (by omega) (by omega) rfl (fun μ2 hg_μ2 => ?_)
      have hb : μ2 _ = some _ := hg_μ2 ▸ (updM_ne (Ne.symm n2)).trans hb
      have hr : μ2 _ = some _ := hg_μ2 ▸ (updM_ne n4).trans hr
      have hs : μ2 _ = some _ := hg_μ2 ▸ (updM_ne n6).trans hs
      have hf : μ2 _ = some _ := hg_μ2 ▸ updM_eq _ _ _
      first | refine aw_aload_n (i := 0) (q := 38) dX6_leaves_37 rfl rfl rfl ?_ | refine aw_aloadN_n (i := 0) (q := 38) dX6_leaves_37 rfl rfl rfl ?_ | refine aw_aloadQ_n (i := 0) (q := 38) dX6_leaves_37 rfl rfl rfl ?_
      refine aw_getfield (q := 41) dX6_leaves_38 gf_X6_15_6 (by assumption) rfl rfl ?_
      refine aw_iload (q := 43) dX6_leaves_41 rfl rfl ?_
      refine aw_iconst (v := 0) (q := 44) dX6_leaves_43 rfl rfl ?_
      refine aw_iast (q := 45) (e) dX6_leaves_44 hr (by first | assumption | simp) (by first | assumption | (simp only [← nI_add, ← pk_mul]; rfl) | rfl) (by omega) (by omega) rfl (fun μ3 hg_μ3 => ?_)
      have hb : μ3 _ = some _ := hg_μ3 ▸ (updM_ne (Ne.symm n1)).trans hb
      have hf : μ3 _ = some _ := hg_μ3 ▸ (updM_ne (Ne.symm n4)).trans hf
      have hs : μ3 _ = some _ := hg_μ3 ▸ (updM_ne n5).trans hs
      have hr : μ3 _ = some _ := hg_μ3 ▸ updM_eq _ _ _
      refine aw_iinc (q := 48) dX6_leaves_45 rfl (by first | exact nI_1 _ | rfl) (by decide) rfl ?_
      refine aw_goto (tgt := 13) dX6_leaves_48 (by decide) ?_
      have hkk : zKp (fun c _ => c = b ∨ c = r ∨ c = fr) μ μ3 := (hk.tr (hg_μ2 ▸ zKp.up.mono (fun _ _ q => Or.inr (Or.inr q)))).tr (hg_μ3 ▸ zKp.up.mono (fun _ _ q => Or.inr (Or.inl q)))
      exact AW.bud (aw_locals (by exact ⟨rfl, rfl, rfl, trivial⟩) (ih (e + 1) (by omega) μ3 _ _ (fun j hj => by (by_cases ej : j = e; (subst ej; rw [pk_us, pk_us]; exact ⟨rfl, rfl⟩); (rw [pk_un ej, pk_un ej]; exact h1 j (by omega)))) (fun j hj => by (rw [pk_un (by omega), pk_un (by omega)]; exact h2 j (by omega))) hb hr hs hf hkk)) (by omega) (by omega)
  exact AW.bud (aw_locals (by exact ⟨rfl, rfl, rfl, trivial⟩) (loop 8 0 (by omega) μ2 f g (fun j hj => by omega) (fun j _ => ⟨rfl, rfl⟩) hb hr hs hf (hk1.tr hk2))) (by omega) (by omega)
theorem C_Pr_init2 {a : Nat} {u uf : zT} {sc k se la : Int32} (ha : μ a = some (u, .inr (7, [.int 0, .int 0, .int 0, .int 0, .int 0, .null]))) (hu : u ≠ zC) (huf : uf ≠ zC) : Meets G 2 MX7_init_2 [.ref a, .int sc, .int k, .int se, .int la] μ (fun v μ' => v = none ∧ zNewA G μ a u uf 5 (oPr sc k se la 0) (fun _ => 0) μ') 1 5 := by
  refine meets_of (by decide +kernel) (Nat.le_of_ble_eq_true rfl) ?_
  first | refine aw_aload_n (i := 0) (q := 1) dX7_init_2_0 rfl rfl rfl ?_ | refine aw_aloadN_n (i := 0) (q := 1) dX7_init_2_0 rfl rfl rfl ?_ | refine aw_aloadQ_n (i := 0) (q := 1) dX7_init_2_0 rfl rfl rfl ?_
  refine aw_objInit (q := 4) dX7_init_2_1 oi_X7_3 (by decide) (by first | exact Nat.le_of_ble_eq_true rfl | simp [zcat_rf, Value.category]) rfl ?_
  first | refine aw_aload_n (i := 0) (q := 5) dX7_init_2_4 rfl rfl rfl ?_ | refine aw_aloadN_n (i := 0) (q := 5) dX7_init_2_4 rfl rfl rfl ?_ | refine aw_aloadQ_n (i := 0) (q := 5) dX7_init_2_4 rfl rfl rfl ?_
  refine aw_iconst (v := 0) (q := 6) dX7_init_2_5 rfl rfl ?_
  refine aw_putfield (q := 9) dX7_init_2_6 gf_X7_9_7 ha (by first | assumption | simp) (by first | rfl | exact znar_rf _ _ | exact zB_nar _) (by first | rfl | exact zfit_rf _ _ | exact zB_fit _) (Nat.le_of_ble_eq_true rfl) rfl (fun μ1 hg_μ1 => ?_)
  have ha : μ1 _ = some _ := hg_μ1 ▸ updM_eq _ _ _
  simp only [List.set] at ha hg_μ1
  have hk1 : zKp (fun c _ => c = a) μ μ1 := hg_μ1 ▸ zKp.up
  refine AW.bud (bc' := 0 + 1) (bs' := 0 + 5) ?_ (by omega) (by omega)
  first | refine aw_aload_n (i := 0) (q := 10) dX7_init_2_9 rfl rfl rfl ?_ | refine aw_aloadN_n (i := 0) (q := 10) dX7_init_2_9 rfl rfl rfl ?_ | refine aw_aloadQ_n (i := 0) (q := 10) dX7_init_2_9 rfl rfl rfl ?_
  refine aw_iconst (v := 5) (q := 11) dX7_init_2_10 rfl rfl ?_
  refine AW.sub (bc' := 1) (bs' := 5) (by omega) (by omega) ?_
  refine aw_newa (N := 5) (q := 13) dX7_init_2_11 rfl (by omega) uf (by first | assumption | simp) rfl (fun fr μ3 hn_fr hg_μ3 => ?_)
  have ha : μ3 _ = some _ := hg_μ3 ▸ (updM_ne (zneN ha hn_fr)).trans ha
  have h_fr : μ3 fr = some _ := hg_μ3 ▸ updM_eq _ _ _
  have hk3 : zKp (fun c _ => c = a) μ1 μ3 := hg_μ3 ▸ zKp.new hn_fr
  have ne : fr ≠ a := fun e => by rw [e, hg_μ1, updM_eq] at hn_fr; cases hn_fr
  have hfr0 : μ fr = none := by
    rw [hg_μ1, updM_ne ne] at hn_fr
    exact hn_fr
  refine aw_putF (q := 16) dX7_init_2_13 pf_X7_15_7 rfl ha (by first | assumption | simp) (by first | rfl | exact znar_rf _ _ | exact zB_nar _) (by first | rfl | exact zfit_rf _ _ | exact zB_fit _) (Nat.le_of_ble_eq_true rfl) rfl (fun μ4 hg_μ4 => ?_)
  have h_fr : μ4 _ = some _ := hg_μ4 ▸ (updM_ne ne).trans h_fr
  have ha : μ4 _ = some _ := hg_μ4 ▸ updM_eq _ _ _
  simp only [List.set] at ha hg_μ4
  have hk4 : zKp (fun c _ => c = a) μ3 μ4 := hg_μ4 ▸ zKp.up
  first | refine aw_aload_n (i := 0) (q := 17) dX7_init_2_16 rfl rfl rfl ?_ | refine aw_aloadN_n (i := 0) (q := 17) dX7_init_2_16 rfl rfl rfl ?_ | refine aw_aloadQ_n (i := 0) (q := 17) dX7_init_2_16 rfl rfl rfl ?_
  refine aw_iload_n (i := 1) (q := 18) dX7_init_2_17 rfl rfl rfl ?_
  refine aw_putF (q := 21) dX7_init_2_18 pf_X7_19_7 rfl ha (by first | assumption | simp) (by first | rfl | exact znar_rf _ _ | exact zB_nar _) (by first | rfl | exact zfit_rf _ _ | exact zB_fit _) (Nat.le_of_ble_eq_true rfl) rfl (fun μ5 hg_μ5 => ?_)
  have h_fr : μ5 _ = some _ := hg_μ5 ▸ (updM_ne ne).trans h_fr
  have ha : μ5 _ = some _ := hg_μ5 ▸ updM_eq _ _ _
  simp only [List.set] at ha hg_μ5
  have hk5 : zKp (fun c _ => c = a) μ4 μ5 := hg_μ5 ▸ zKp.up
  first | refine aw_aload_n (i := 0) (q := 22) dX7_init_2_21 rfl rfl rfl ?_ | refine aw_aloadN_n (i := 0) (q := 22) dX7_init_2_21 rfl rfl rfl ?_ | refine aw_aloadQ_n (i := 0) (q := 22) dX7_init_2_21 rfl rfl rfl ?_
  refine aw_iload_n (i := 2) (q := 23) dX7_init_2_22 rfl rfl rfl ?_
  refine aw_putF (q := 26) dX7_init_2_23 pf_X7_22_7 rfl ha (by first | assumption | simp) (by first | rfl | exact znar_rf _ _ | exact zB_nar _) (by first | rfl | exact zfit_rf _ _ | exact zB_fit _) (Nat.le_of_ble_eq_true rfl) rfl (fun μ6 hg_μ6 => ?_)
  have h_fr : μ6 _ = some _ := hg_μ6 ▸ (updM_ne ne).trans h_fr
  have ha : μ6 _ = some _ := hg_μ6 ▸ updM_eq _ _ _
  simp only [List.set] at ha hg_μ6
  have hk6 : zKp (fun c _ => c = a) μ5 μ6 := hg_μ6 ▸ zKp.up
  first | refine aw_aload_n (i := 0) (q := 27) dX7_init_2_26 rfl rfl rfl ?_ | refine aw_aloadN_n (i := 0) (q := 27) dX7_init_2_26 rfl rfl rfl ?_ | refine aw_aloadQ_n (i := 0) (q := 27) dX7_init_2_26 rfl rfl rfl ?_
  refine aw_iload_n (i := 3) (q := 28) dX7_init_2_27 rfl rfl rfl ?_
  refine aw_putF (q := 31) dX7_init_2_28 pf_X7_25_7 rfl ha (by first | assumption | simp) (by first | rfl | exact znar_rf _ _ | exact zB_nar _) (by first | rfl | exact zfit_rf _ _ | exact zB_fit _) (Nat.le_of_ble_eq_true rfl) rfl (fun μ7 hg_μ7 => ?_)
  have h_fr : μ7 _ = some _ := hg_μ7 ▸ (updM_ne ne).trans h_fr
  have ha : μ7 _ = some _ := hg_μ7 ▸ updM_eq _ _ _
  simp only [List.set] at ha hg_μ7
  have hk7 : zKp (fun c _ => c = a) μ6 μ7 := hg_μ7 ▸ zKp.up
  first | refine aw_aload_n (i := 0) (q := 32) dX7_init_2_31 rfl rfl rfl ?_ | refine aw_aloadN_n (i := 0) (q := 32) dX7_init_2_31 rfl rfl rfl ?_ | refine aw_aloadQ_n (i := 0) (q := 32) dX7_init_2_31 rfl rfl rfl ?_
  refine aw_iload (q := 34) dX7_init_2_32 rfl rfl ?_
  refine aw_putF (q := 37) dX7_init_2_34 pf_X7_28_7 rfl ha (by first | assumption | simp) (by first | rfl | exact znar_rf _ _ | exact zB_nar _) (by first | rfl | exact zfit_rf _ _ | exact zB_fit _) (Nat.le_of_ble_eq_true rfl) rfl (fun μ8 hg_μ8 => ?_)
  have h_fr : μ8 _ = some _ := hg_μ8 ▸ (updM_ne ne).trans h_fr
  have ha : μ8 _ = some _ := hg_μ8 ▸ updM_eq _ _ _
  simp only [List.set] at ha hg_μ8
  have hk8 : zKp (fun c _ => c = a) μ7 μ8 := hg_μ8 ▸ zKp.up
  exact aw_return dX7_init_2_37 rfl (⟨rfl, fr, _, ne, hfr0, ha, h_fr, fun j hj => rfl, (((((hk1.tr hk3).tr hk4).tr hk5).tr hk6).tr hk7).tr hk8⟩)
theorem C_Pr_init {a b fb : Nat} {u uf tb tf : zT} {sc k se la st : Int32} {f : Nat → Int32} (ha : μ a = some (u, .inr (7, [.int 0, .int 0, .int 0, .int 0, .int 0, .null]))) (hu : u ≠ zC) (huf : uf ≠ zC) (hb : μ b = some (tb, oPr sc k se la st fb)) (hf : μ fb = some (tf, aI G 5 f)) (hne : b ≠ a) : Meets G 3 MX7_init [.ref a, .ref b] μ (fun v μ' => v = none ∧ zNewA G μ a u uf 5 (oPr sc k se la st) f μ') 1 5 := by
  have hfa : fb ≠ a := zneq hf ha (by simp)
  have hf0 := hf
  refine meets_of (by decide +kernel) (Nat.le_of_ble_eq_true rfl) ?_
  refine AW.bud (bc' := 0 + 1) (bs' := 0 + 5) ?_ (by omega) (by omega)
  first | refine aw_aload_n (i := 0) (q := 1) dX7_init_0 rfl rfl rfl ?_ | refine aw_aloadN_n (i := 0) (q := 1) dX7_init_0 rfl rfl rfl ?_ | refine aw_aloadQ_n (i := 0) (q := 1) dX7_init_0 rfl rfl rfl ?_
  first | refine aw_aload_n (i := 1) (q := 2) dX7_init_1 rfl rfl rfl ?_ | refine aw_aloadN_n (i := 1) (q := 2) dX7_init_1 rfl rfl rfl ?_ | refine aw_aloadQ_n (i := 1) (q := 2) dX7_init_1 rfl rfl rfl ?_
  refine aw_getfield (q := 5) dX7_init_2 gf_X7_19_7 (by assumption) rfl rfl ?_
  first | refine aw_aload_n (i := 1) (q := 6) dX7_init_5 rfl rfl rfl ?_ | refine aw_aloadN_n (i := 1) (q := 6) dX7_init_5 rfl rfl rfl ?_ | refine aw_aloadQ_n (i := 1) (q := 6) dX7_init_5 rfl rfl rfl ?_
  refine aw_getfield (q := 9) dX7_init_6 gf_X7_22_7 (by assumption) rfl rfl ?_
  first | refine aw_aload_n (i := 1) (q := 10) dX7_init_9 rfl rfl rfl ?_ | refine aw_aloadN_n (i := 1) (q := 10) dX7_init_9 rfl rfl rfl ?_ | refine aw_aloadQ_n (i := 1) (q := 10) dX7_init_9 rfl rfl rfl ?_
  refine aw_getfield (q := 13) dX7_init_10 gf_X7_25_7 (by assumption) rfl rfl ?_
  first | refine aw_aload_n (i := 1) (q := 14) dX7_init_13 rfl rfl rfl ?_ | refine aw_aloadN_n (i := 1) (q := 14) dX7_init_13 rfl rfl rfl ?_ | refine aw_aloadQ_n (i := 1) (q := 14) dX7_init_13 rfl rfl rfl ?_
  refine aw_getfield (q := 17) dX7_init_14 gf_X7_28_7 (by assumption) rfl rfl ?_
  refine aw_callI (q := 20) dX7_init_17 (C_Pr_init2 ha hu huf) ci_X7_31 rfl rfl (by decide) (by decide) (by first | exact Nat.le_of_ble_eq_true rfl | simp [zcat_rf, Value.category]) rfl (fun v17 μ1 hp => ?_)
  obtain ⟨rfl, fr, f', ne, hfr0, ha, hfr, -, hk1⟩ := hp
  have hb : μ1 b = _ := hk1 _ _ _ hb hne
  have hf : μ1 fb = _ := hk1 _ _ _ hf hfa
  have nef : fb ≠ fr := fun e => by rw [e, hfr0] at hf0; cases hf0
  first | refine aw_aload_n (i := 0) (q := 21) dX7_init_20 rfl rfl rfl ?_ | refine aw_aloadN_n (i := 0) (q := 21) dX7_init_20 rfl rfl rfl ?_ | refine aw_aloadQ_n (i := 0) (q := 21) dX7_init_20 rfl rfl rfl ?_
  first | refine aw_aload_n (i := 1) (q := 22) dX7_init_21 rfl rfl rfl ?_ | refine aw_aloadN_n (i := 1) (q := 22) dX7_init_21 rfl rfl rfl ?_ | refine aw_aloadQ_n (i := 1) (q := 22) dX7_init_21 rfl rfl rfl ?_
  refine aw_getfield (q := 25) dX7_init_22 gf_X7_9_7 (by assumption) rfl rfl ?_
  refine aw_putfield (q := 28) dX7_init_25 gf_X7_9_7 ha (by first | assumption | simp) (by first | rfl | exact znar_rf _ _ | exact zB_nar _) (by first | rfl | exact zfit_rf _ _ | exact zB_fit _) (Nat.le_of_ble_eq_true rfl) rfl (fun μ2 hg_μ2 => ?_)
  have hb : μ2 _ = some _ := hg_μ2 ▸ (updM_ne hne).trans hb
  have hf : μ2 _ = some _ := hg_μ2 ▸ (updM_ne hfa).trans hf
  have hfr : μ2 _ = some _ := hg_μ2 ▸ (updM_ne ne).trans hfr
  have ha : μ2 _ = some _ := hg_μ2 ▸ updM_eq _ _ _
  simp only [List.set] at ha hg_μ2
  have hk2 : zKp (fun c _ => c = a) μ1 μ2 := hg_μ2 ▸ zKp.up
  first | refine aw_aload_n (i := 1) (q := 29) dX7_init_28 rfl rfl rfl ?_ | refine aw_aloadN_n (i := 1) (q := 29) dX7_init_28 rfl rfl rfl ?_ | refine aw_aloadQ_n (i := 1) (q := 29) dX7_init_28 rfl rfl rfl ?_
  refine aw_getfield (q := 32) dX7_init_29 gf_X7_15_7 (by assumption) rfl rfl ?_
  refine aw_iconst (v := 0) (q := 33) dX7_init_32 rfl rfl ?_
  first | refine aw_aload_n (i := 0) (q := 34) dX7_init_33 rfl rfl rfl ?_ | refine aw_aloadN_n (i := 0) (q := 34) dX7_init_33 rfl rfl rfl ?_ | refine aw_aloadQ_n (i := 0) (q := 34) dX7_init_33 rfl rfl rfl ?_
  refine aw_getfield (q := 37) dX7_init_34 gf_X7_15_7 (by assumption) rfl rfl ?_
  refine aw_iconst (v := 0) (q := 38) dX7_init_37 rfl rfl ?_
  first | refine aw_aload_n (i := 0) (q := 39) dX7_init_38 rfl rfl rfl ?_ | refine aw_aloadN_n (i := 0) (q := 39) dX7_init_38 rfl rfl rfl ?_ | refine aw_aloadQ_n (i := 0) (q := 39) dX7_init_38 rfl rfl rfl ?_
  refine aw_getfield (q := 42) dX7_init_39 gf_X7_15_7 (by assumption) rfl rfl ?_
  first | refine aw_alenI (q := 43) dX7_init_42 (by assumption) rfl ?_ | refine aw_alenO (q := 43) dX7_init_42 (by assumption) rfl ?_ | refine aw_alenN (q := 43) dX7_init_42 (by assumption) rfl ?_ | refine aw_alenB (q := 43) dX7_init_42 (by assumption) rfl ?_ | refine aw_alenP (q := 43) dX7_init_42 (by assumption) rfl ?_
  refine aw_copyX (j := 0) (sp := 0) (dp := 0) (n := 5) (q := 46) dX7_init_43 cp_X7_34 rfl rfl hf hfr huf rfl rfl rfl (by omega) (by omega) (by omega) (by omega) (fun i hi => rfl) (by decide) (Nat.le_of_ble_eq_true rfl) rfl (fun μ6 hg_μ6 => ?_)
  have ha : μ6 _ = some _ := hg_μ6 ▸ (updM_ne (Ne.symm ne)).trans ha
  have hfr : μ6 _ = some _ := hg_μ6 ▸ updM_eq _ _ _
  have hk6 : zKp (fun c _ => c = fr) μ2 μ6 := hg_μ6 ▸ zKp.up
  have hkk : zKp (fun c _ => c = a) μ μ6 := by
    intro c tc ec hc hn
    have ncf : c ≠ fr := fun q => by rw [q, hfr0] at hc; cases hc
    exact hk6 _ _ _ (hk2 _ _ _ (hk1 _ _ _ hc hn) hn) ncf
  exact aw_return dX7_init_46 rfl (⟨rfl, fr, _, ne, hfr0, ha, hfr, fun r hr => by (rw [pk_cpy_in (Nat.zero_le _) (by omega)]; simp), hkk⟩)
theorem C_Pr_isFor {a b s ct r t fr : Nat} {ta tb ts tt : zT} {sc k se la st sh bse bsc bd co bst rf sk sst sla wo mo d sl : Int32} (ha : μ a = some (ta, oPr sc k se la st ct)) (hb : μ b = some (tb, oBk sh bse bsc bd co bst rf r)) (hs : μ s = some (ts, oSh sk t sst sla wo mo fr)) (ht : μ t = some (tt, oTime d sl)) : Meets G 1 MX7_isFor [.ref a, .ref b, .ref s] μ (zPure (.int (zB (st = 0 ∧ bsc = sc ∧ sk = k ∧ d ≤ la))) μ) 0 0 := by
  refine meets_of (by decide +kernel) (Nat.le_of_ble_eq_true rfl) ?_
  first | refine aw_aload_n (i := 0) (q := 1) dX7_isFor_0 rfl rfl rfl ?_ | refine aw_aloadN_n (i := 0) (q := 1) dX7_isFor_0 rfl rfl rfl ?_ | refine aw_aloadQ_n (i := 0) (q := 1) dX7_isFor_0 rfl rfl rfl ?_
  refine aw_getfield (q := 4) dX7_isFor_1 gf_X7_9_7 (by assumption) rfl rfl ?_
  refine aw_if_ne (tgt := 47) (q := 7) dX7_isFor_4 (by decide) rfl (fun h1 => ?_) (fun h1 => ?_)
  · refine aw_iconst (v := 0) (q := 48) dX7_isFor_47 rfl rfl ?_
    exact aw_ireturn dX7_isFor_48 rfl (by first | rfl | exact zB_nar _) (by refine ⟨?_, rfl⟩; rw [zB_f (fun q => h1 q.1)])
  · first | refine aw_aload_n (i := 1) (q := 8) dX7_isFor_7 rfl rfl rfl ?_ | refine aw_aloadN_n (i := 1) (q := 8) dX7_isFor_7 rfl rfl rfl ?_ | refine aw_aloadQ_n (i := 1) (q := 8) dX7_isFor_7 rfl rfl rfl ?_
    refine aw_getfield (q := 11) dX7_isFor_8 gf_X7_40_6 (by assumption) rfl rfl ?_
    first | refine aw_aload_n (i := 0) (q := 12) dX7_isFor_11 rfl rfl rfl ?_ | refine aw_aloadN_n (i := 0) (q := 12) dX7_isFor_11 rfl rfl rfl ?_ | refine aw_aloadQ_n (i := 0) (q := 12) dX7_isFor_11 rfl rfl rfl ?_
    refine aw_getfield (q := 15) dX7_isFor_12 gf_X7_19_7 (by assumption) rfl rfl ?_
    refine aw_icmp_ne (tgt := 47) (q := 18) dX7_isFor_15 (by decide) rfl (fun h2 => ?_) (fun h2 => ?_)
    · refine aw_iconst (v := 0) (q := 48) dX7_isFor_47 rfl rfl ?_
      exact aw_ireturn dX7_isFor_48 rfl (by first | rfl | exact zB_nar _) (by refine ⟨?_, rfl⟩; rw [zB_f (fun q => h2 q.2.1)])
    · first | refine aw_aload_n (i := 2) (q := 19) dX7_isFor_18 rfl rfl rfl ?_ | refine aw_aloadN_n (i := 2) (q := 19) dX7_isFor_18 rfl rfl rfl ?_ | refine aw_aloadQ_n (i := 2) (q := 19) dX7_isFor_18 rfl rfl rfl ?_
      refine aw_getfield (q := 22) dX7_isFor_19 gf_X7_43_5 (by assumption) rfl rfl ?_
      first | refine aw_aload_n (i := 0) (q := 23) dX7_isFor_22 rfl rfl rfl ?_ | refine aw_aloadN_n (i := 0) (q := 23) dX7_isFor_22 rfl rfl rfl ?_ | refine aw_aloadQ_n (i := 0) (q := 23) dX7_isFor_22 rfl rfl rfl ?_
      refine aw_getfield (q := 26) dX7_isFor_23 gf_X7_22_7 (by assumption) rfl rfl ?_
      refine aw_icmp_ne (tgt := 47) (q := 29) dX7_isFor_26 (by decide) rfl (fun h3 => ?_) (fun h3 => ?_)
      · refine aw_iconst (v := 0) (q := 48) dX7_isFor_47 rfl rfl ?_
        exact aw_ireturn dX7_isFor_48 rfl (by first | rfl | exact zB_nar _) (by refine ⟨?_, rfl⟩; rw [zB_f (fun q => h3 q.2.2.1)])
      · first | refine aw_aload_n (i := 2) (q := 30) dX7_isFor_29 rfl rfl rfl ?_ | refine aw_aloadN_n (i := 2) (q := 30) dX7_isFor_29 rfl rfl rfl ?_ | refine aw_aloadQ_n (i := 2) (q := 30) dX7_isFor_29 rfl rfl rfl ?_
        refine aw_getfield (q := 33) dX7_isFor_30 gf_X7_46_5 (by assumption) rfl rfl ?_
        refine aw_getfield (q := 36) dX7_isFor_33 gf_X7_50_8 (by assumption) rfl rfl ?_
        first | refine aw_aload_n (i := 0) (q := 37) dX7_isFor_36 rfl rfl rfl ?_ | refine aw_aloadN_n (i := 0) (q := 37) dX7_isFor_36 rfl rfl rfl ?_ | refine aw_aloadQ_n (i := 0) (q := 37) dX7_isFor_36 rfl rfl rfl ?_
        refine aw_getfield (q := 40) dX7_isFor_37 gf_X7_28_7 (by assumption) rfl rfl ?_
        refine aw_icmp_gt (tgt := 47) (q := 43) dX7_isFor_40 (by decide) rfl (fun h4 => ?_) (fun h4 => ?_)
        · refine aw_iconst (v := 0) (q := 48) dX7_isFor_47 rfl rfl ?_
          exact aw_ireturn dX7_isFor_48 rfl (by first | rfl | exact zB_nar _) (by refine ⟨?_, rfl⟩; rw [zB_f (fun q => Int32.not_lt.mpr q.2.2.2 h4)])
        · refine aw_iconst (v := 1) (q := 44) dX7_isFor_43 rfl rfl ?_
          refine aw_goto (tgt := 48) dX7_isFor_44 (by decide) ?_
          exact aw_ireturn dX7_isFor_48 rfl (by first | rfl | exact zB_nar _) (by refine ⟨?_, rfl⟩; rw [zB_t ⟨h1, h2, h3, Int32.not_lt.mp h4⟩])
theorem C_Pr_close {a ct : Nat} {ta tc : zT} {sc k se la st : Int32} {f : Nat → Int32} (ha : μ a = some (ta, oPr sc k se la st ct)) (hta : ta ≠ zC) (hf : μ ct = some (tc, aI G 5 f)) : Meets G 1 MX7_close [.ref a] μ (fun v μ' => v = none ∧ μ' = updM μ a (ta, oPr sc k se la (if se ≤ f 0 then 1 else 2) ct)) 0 0 := by
  refine meets_of (by decide +kernel) (Nat.le_of_ble_eq_true rfl) ?_
  first | refine aw_aload_n (i := 0) (q := 1) dX7_close_0 rfl rfl rfl ?_ | refine aw_aloadN_n (i := 0) (q := 1) dX7_close_0 rfl rfl rfl ?_ | refine aw_aloadQ_n (i := 0) (q := 1) dX7_close_0 rfl rfl rfl ?_
  first | refine aw_aload_n (i := 0) (q := 2) dX7_close_1 rfl rfl rfl ?_ | refine aw_aloadN_n (i := 0) (q := 2) dX7_close_1 rfl rfl rfl ?_ | refine aw_aloadQ_n (i := 0) (q := 2) dX7_close_1 rfl rfl rfl ?_
  refine aw_getfield (q := 5) dX7_close_2 gf_X7_15_7 (by assumption) rfl rfl ?_
  refine aw_iconst (v := 0) (q := 6) dX7_close_5 rfl rfl ?_
  refine aw_iald (q := 7) (v := f 0) (0) dX7_close_6 (by assumption) (by first | assumption | (simp only [← nI_add, ← pk_mul]; rfl) | rfl) (by omega) (by omega) (rfl) rfl ?_
  first | refine aw_aload_n (i := 0) (q := 8) dX7_close_7 rfl rfl rfl ?_ | refine aw_aloadN_n (i := 0) (q := 8) dX7_close_7 rfl rfl rfl ?_ | refine aw_aloadQ_n (i := 0) (q := 8) dX7_close_7 rfl rfl rfl ?_
  refine aw_getfield (q := 11) dX7_close_8 gf_X7_25_7 (by assumption) rfl rfl ?_
  refine aw_icmp_lt (tgt := 18) (q := 14) dX7_close_11 (by decide) rfl (fun h1 => ?_) (fun h1 => ?_)
  · refine aw_iconst (v := 2) (q := 19) dX7_close_18 rfl rfl ?_
    refine aw_putfield (q := 22) dX7_close_19 gf_X7_9_7 ha (by first | assumption | simp) (by first | rfl | exact znar_rf _ _ | exact zB_nar _) (by first | rfl | exact zfit_rf _ _ | exact zB_fit _) (Nat.le_of_ble_eq_true rfl) rfl (fun μ1 hg_μ1 => ?_)
    have ha : μ1 _ = some _ := hg_μ1 ▸ updM_eq _ _ _
    simp only [List.set] at ha hg_μ1
    exact aw_return dX7_close_22 rfl (by refine ⟨rfl, ?_⟩; rw [hg_μ1, if_neg (Int32.not_le.mpr h1)])
  · refine aw_iconst (v := 1) (q := 15) dX7_close_14 rfl rfl ?_
    refine aw_goto (tgt := 19) dX7_close_15 (by decide) ?_
    refine aw_putfield (q := 22) dX7_close_19 gf_X7_9_7 ha (by first | assumption | simp) (by first | rfl | exact znar_rf _ _ | exact zB_nar _) (by first | rfl | exact zfit_rf _ _ | exact zB_fit _) (Nat.le_of_ble_eq_true rfl) rfl (fun μ1 hg_μ1 => ?_)
    have ha : μ1 _ = some _ := hg_μ1 ▸ updM_eq _ _ _
    simp only [List.set] at ha hg_μ1
    exact aw_return dX7_close_22 rfl (by refine ⟨rfl, ?_⟩; rw [hg_μ1, if_pos (Int32.not_lt.mp h1)])
/-- the reason: the sum of the counts, the place of the greatest from 1 on -/
def zBestN (f : Nat → Int32) : Nat → Nat
  | 0 => 1
  | k + 1 => if 1 < k ∧ f (zBestN f k) < f k then k else zBestN f k
theorem zBestN_lt (f : Nat → Int32) : ∀ k, k ≤ 5 → zBestN f k < 5
  | 0, _ => (by decide : 1 < 5)
  | k + 1, h => by
    have := zBestN_lt f k (by omega)
    unfold zBestN
    split <;> omega
def zReason (f : Nat → Int32) (se : Int32) : Int32 := if tSumR f 5 < se then 1 else nI (zBestN f 5 + 1)
theorem C_Pr_reason {a ct : Nat} {ta tc : zT} {sc k se la st : Int32} {f : Nat → Int32} (ha : μ a = some (ta, oPr sc k se la st ct)) (hf : μ ct = some (tc, aI G 5 f)) : Meets G 1 MX7_reason [.ref a] μ (zPure (.int (zReason f se)) μ) 0 0 := by
  refine meets_of (by decide +kernel) (Nat.le_of_ble_eq_true rfl) ?_
  refine aw_iconst (v := 0) (q := 1) dX7_reason_0 rfl rfl ?_
  refine aw_istore_n (i := 1) (q := 2) dX7_reason_1 rfl (by decide) rfl ?_
  refine aw_iconst (v := 1) (q := 3) dX7_reason_2 rfl rfl ?_
  refine aw_istore_n (i := 2) (q := 4) dX7_reason_3 rfl (by decide) rfl ?_
  refine aw_iconst (v := 0) (q := 5) dX7_reason_4 rfl rfl ?_
  refine aw_istore_n (i := 3) (q := 6) dX7_reason_5 rfl (by decide) rfl ?_
  have loop : ∀ n e, e + n = 5 → AW G 1 MX7_reason (zPure (.int (zReason f se)) μ) 0 0 6 [(0, .ref a), (1, .int (tSumR f e)), (2, .int (nI (zBestN f e))), (3, .int (nI e))] [] μ := by
    intro n
    induction n with
    | zero =>
      intro e he
      rw [show e = 5 by omega]
      have hl := zBestN_lt f 5 (Nat.le_refl _)
      refine aw_iload_n (i := 3) (q := 7) dX7_reason_6 rfl rfl rfl ?_
      refine aw_iconst (v := 4) (q := 8) dX7_reason_7 rfl rfl ?_
      refine aw_icmp_gt (tgt := 52) (q := 11) dX7_reason_8 (by decide) rfl (fun _ => ?_) (fun hZ => absurd ((by decide : (4 : Int32) < 5)) hZ)
      refine aw_iload_n (i := 1) (q := 53) dX7_reason_52 rfl rfl rfl ?_
      first | refine aw_aload_n (i := 0) (q := 54) dX7_reason_53 rfl rfl rfl ?_ | refine aw_aloadN_n (i := 0) (q := 54) dX7_reason_53 rfl rfl rfl ?_ | refine aw_aloadQ_n (i := 0) (q := 54) dX7_reason_53 rfl rfl rfl ?_
      refine aw_getfield (q := 57) dX7_reason_54 gf_X7_25_7 (by assumption) rfl rfl ?_
      refine aw_icmp_ge (tgt := 64) (q := 60) dX7_reason_57 (by decide) rfl (fun hc => ?_) (fun hc => ?_)
      · refine aw_iload_n (i := 2) (q := 65) dX7_reason_64 rfl rfl rfl ?_
        refine aw_iconst (v := 1) (q := 66) dX7_reason_65 rfl rfl ?_
        refine aw_iadd (q := 67) dX7_reason_66 rfl ?_
        exact aw_ireturn dX7_reason_67 rfl (by first | rfl | exact zB_nar _) (by refine ⟨?_, rfl⟩; rw [zReason, if_neg (Int32.not_lt.mpr hc), nI_1])
      · refine aw_iconst (v := 1) (q := 61) dX7_reason_60 rfl rfl ?_
        refine aw_goto (tgt := 67) dX7_reason_61 (by decide) ?_
        exact aw_ireturn dX7_reason_67 rfl (by first | rfl | exact zB_nar _) (by refine ⟨?_, rfl⟩; rw [zReason, if_pos (Int32.not_le.mp hc)])
    | succ n ih =>
      intro e he
      have hl := zBestN_lt f e (by omega)
      refine aw_iload_n (i := 3) (q := 7) dX7_reason_6 rfl rfl rfl ?_
      refine aw_iconst (v := 4) (q := 8) dX7_reason_7 rfl rfl ?_
      refine aw_icmp_gt (tgt := 52) (q := 11) dX7_reason_8 (by decide) rfl (fun hZ => absurd hZ (nI_nlt (a := 4) (b := e) (by omega) (by omega))) (fun _ => ?_)
      refine aw_iload_n (i := 1) (q := 12) dX7_reason_11 rfl rfl rfl ?_
      first | refine aw_aload_n (i := 0) (q := 13) dX7_reason_12 rfl rfl rfl ?_ | refine aw_aloadN_n (i := 0) (q := 13) dX7_reason_12 rfl rfl rfl ?_ | refine aw_aloadQ_n (i := 0) (q := 13) dX7_reason_12 rfl rfl rfl ?_
      refine aw_getfield (q := 16) dX7_reason_13 gf_X7_15_7 (by assumption) rfl rfl ?_
      refine aw_iload_n (i := 3) (q := 17) dX7_reason_16 rfl rfl rfl ?_
      refine aw_iald (q := 18) (v := f e) (e) dX7_reason_17 (by assumption) (by first | assumption | (simp only [← nI_add, ← pk_mul]; rfl) | rfl) (by omega) (by omega) (rfl) rfl ?_
      refine aw_iadd (q := 19) dX7_reason_18 rfl ?_
      refine aw_istore_n (i := 1) (q := 20) dX7_reason_19 rfl (by decide) rfl ?_
      refine aw_iload_n (i := 3) (q := 21) dX7_reason_20 rfl rfl rfl ?_
      refine aw_iconst (v := 1) (q := 22) dX7_reason_21 rfl rfl ?_
      by_cases h1 : e ≤ 1
      · have e0 : zBestN f (e + 1) = zBestN f e := if_neg (fun q => by omega)
        refine aw_icmp_le (tgt := 44) (q := 25) dX7_reason_22 (by decide) rfl (fun _ => ?_) (fun hZ => absurd (nI_le (b := 1) h1 (by omega)) hZ)
        refine aw_iload_n (i := 2) (q := 45) dX7_reason_44 rfl rfl rfl ?_
        refine aw_istore_n (i := 2) (q := 46) dX7_reason_45 rfl (by decide) rfl ?_
        refine aw_iinc (q := 49) dX7_reason_46 rfl (by first | exact nI_1 _ | rfl) (by decide) rfl ?_
        refine aw_goto (tgt := 6) dX7_reason_49 (by decide) ?_
        exact AW.bud (aw_locals (by exact ⟨rfl, rfl, by (rw [e0]; rfl), rfl, trivial⟩) (ih (e + 1) (by omega))) (by omega) (by omega)
      · skip
        refine aw_icmp_le (tgt := 44) (q := 25) dX7_reason_22 (by decide) rfl (fun hZ => absurd hZ (nI_ge (b := e) (a := 1) (by omega) (by omega))) (fun _ => ?_)
        first | refine aw_aload_n (i := 0) (q := 26) dX7_reason_25 rfl rfl rfl ?_ | refine aw_aloadN_n (i := 0) (q := 26) dX7_reason_25 rfl rfl rfl ?_ | refine aw_aloadQ_n (i := 0) (q := 26) dX7_reason_25 rfl rfl rfl ?_
        refine aw_getfield (q := 29) dX7_reason_26 gf_X7_15_7 (by assumption) rfl rfl ?_
        refine aw_iload_n (i := 3) (q := 30) dX7_reason_29 rfl rfl rfl ?_
        refine aw_iald (q := 31) (v := f e) (e) dX7_reason_30 (by assumption) (by first | assumption | (simp only [← nI_add, ← pk_mul]; rfl) | rfl) (by omega) (by omega) (rfl) rfl ?_
        first | refine aw_aload_n (i := 0) (q := 32) dX7_reason_31 rfl rfl rfl ?_ | refine aw_aloadN_n (i := 0) (q := 32) dX7_reason_31 rfl rfl rfl ?_ | refine aw_aloadQ_n (i := 0) (q := 32) dX7_reason_31 rfl rfl rfl ?_
        refine aw_getfield (q := 35) dX7_reason_32 gf_X7_15_7 (by assumption) rfl rfl ?_
        refine aw_iload_n (i := 2) (q := 36) dX7_reason_35 rfl rfl rfl ?_
        refine aw_iald (q := 37) (v := f (zBestN f e)) (zBestN f e) dX7_reason_36 (by assumption) (by first | assumption | (simp only [← nI_add, ← pk_mul]; rfl) | rfl) (by omega) (by omega) (rfl) rfl ?_
        refine aw_icmp_le (tgt := 44) (q := 40) dX7_reason_37 (by decide) rfl (fun hc => ?_) (fun hc => ?_)
        · refine aw_iload_n (i := 2) (q := 45) dX7_reason_44 rfl rfl rfl ?_
          refine aw_istore_n (i := 2) (q := 46) dX7_reason_45 rfl (by decide) rfl ?_
          refine aw_iinc (q := 49) dX7_reason_46 rfl (by first | exact nI_1 _ | rfl) (by decide) rfl ?_
          refine aw_goto (tgt := 6) dX7_reason_49 (by decide) ?_
          have e0 : zBestN f (e + 1) = zBestN f e := if_neg (fun q => Int32.not_lt.mpr hc q.2)
          exact AW.bud (aw_locals (by exact ⟨rfl, rfl, by (rw [e0]; rfl), rfl, trivial⟩) (ih (e + 1) (by omega))) (by omega) (by omega)
        · refine aw_iload_n (i := 3) (q := 41) dX7_reason_40 rfl rfl rfl ?_
          refine aw_goto (tgt := 45) dX7_reason_41 (by decide) ?_
          refine aw_istore_n (i := 2) (q := 46) dX7_reason_45 rfl (by decide) rfl ?_
          refine aw_iinc (q := 49) dX7_reason_46 rfl (by first | exact nI_1 _ | rfl) (by decide) rfl ?_
          refine aw_goto (tgt := 6) dX7_reason_49 (by decide) ?_
          have e0 : zBestN f (e + 1) = e := if_pos ⟨by omega, Int32.not_le.mp hc⟩
          exact AW.bud (aw_locals (by exact ⟨rfl, rfl, by (rw [e0]; rfl), rfl, trivial⟩) (ih (e + 1) (by omega))) (by omega) (by omega)
  exact AW.bud (aw_locals (by exact ⟨rfl, rfl, rfl, rfl, trivial⟩) (loop 5 0 (by omega))) (by omega) (by omega)
theorem C_Or_init {a : Nat} {u uf : zT} {x : Int32} (hx : x = 112 ∨ x = 101 ∨ x = 98) (ha : μ a = some (u, .inr (10, [.int 0, .null]))) (hu : u ≠ zC) (huf : uf ≠ zC) : Meets G 2 MX10_init [.ref a, .int x] μ (fun v μ' => v = none ∧ zNewA G μ a u uf 4 (oOr x) (fun j => if j = 2 then -6 else 0) μ') 1 4 := by
  refine meets_of (by decide +kernel) (Nat.le_of_ble_eq_true rfl) ?_
  refine AW.bud (bc' := 0 + 1) (bs' := 0 + 4) ?_ (by omega) (by omega)
  first | refine aw_aload_n (i := 0) (q := 1) dX10_init_0 rfl rfl rfl ?_ | refine aw_aloadN_n (i := 0) (q := 1) dX10_init_0 rfl rfl rfl ?_ | refine aw_aloadQ_n (i := 0) (q := 1) dX10_init_0 rfl rfl rfl ?_
  refine aw_objInit (q := 4) dX10_init_1 oi_X10_3 (by decide) (by first | exact Nat.le_of_ble_eq_true rfl | simp [zcat_rf, Value.category]) rfl ?_
  first | refine aw_aload_n (i := 0) (q := 5) dX10_init_4 rfl rfl rfl ?_ | refine aw_aloadN_n (i := 0) (q := 5) dX10_init_4 rfl rfl rfl ?_ | refine aw_aloadQ_n (i := 0) (q := 5) dX10_init_4 rfl rfl rfl ?_
  refine aw_iconst (v := 4) (q := 6) dX10_init_5 rfl rfl ?_
  refine AW.sub (bc' := 1) (bs' := 4) (by omega) (by omega) ?_
  refine aw_newa (N := 4) (q := 8) dX10_init_6 rfl (by omega) uf (by first | assumption | simp) rfl (fun fr μ1 hn_fr hg_μ1 => ?_)
  have ha : μ1 _ = some _ := hg_μ1 ▸ (updM_ne (zneN ha hn_fr)).trans ha
  have h_fr : μ1 fr = some _ := hg_μ1 ▸ updM_eq _ _ _
  have hk1 : zKp (fun c _ => c = a) μ μ1 := hg_μ1 ▸ zKp.new hn_fr
  have ne : fr ≠ a := Ne.symm (zneN (by assumption) hn_fr)
  have upf : ∀ (μ1 μ2 : zM) (e : zT × va_E), zKp (fun c _ => c = a) μ μ1 → μ2 = updM μ1 fr e → zKp (fun c _ => c = a) μ μ2 := by
    intro μ1 μ2 e h1 h2 c tc ec hc hn
    rw [h2, updM_ne (zneN hc hn_fr)]
    exact h1 c tc ec hc hn
  refine aw_dup (q := 9) dX10_init_8 (by first | rfl | exact zcat_rf _) rfl ?_
  refine aw_iconst (v := 0) (q := 10) dX10_init_9 rfl rfl ?_
  refine aw_iconst (v := 0) (q := 11) dX10_init_10 rfl rfl ?_
  refine aw_iast (q := 12) (0) dX10_init_11 h_fr (by first | assumption | simp) (by first | assumption | (simp only [← nI_add, ← pk_mul]; rfl) | rfl) (by omega) (by omega) rfl (fun μ2 hg_μ2 => ?_)
  have ha : μ2 _ = some _ := hg_μ2 ▸ (updM_ne (Ne.symm ne)).trans ha
  have h_fr : μ2 _ = some _ := hg_μ2 ▸ updM_eq _ _ _
  have hk2 := upf _ _ _ hk1 hg_μ2
  refine aw_dup (q := 13) dX10_init_12 (by first | rfl | exact zcat_rf _) rfl ?_
  refine aw_iconst (v := 1) (q := 14) dX10_init_13 rfl rfl ?_
  refine aw_iconst (v := 0) (q := 15) dX10_init_14 rfl rfl ?_
  refine aw_iast (q := 16) (1) dX10_init_15 h_fr (by first | assumption | simp) (by first | assumption | (simp only [← nI_add, ← pk_mul]; rfl) | rfl) (by omega) (by omega) rfl (fun μ3 hg_μ3 => ?_)
  have ha : μ3 _ = some _ := hg_μ3 ▸ (updM_ne (Ne.symm ne)).trans ha
  have h_fr : μ3 _ = some _ := hg_μ3 ▸ updM_eq _ _ _
  have hk3 := upf _ _ _ hk2 hg_μ3
  refine aw_dup (q := 17) dX10_init_16 (by first | rfl | exact zcat_rf _) rfl ?_
  refine aw_iconst (v := 2) (q := 18) dX10_init_17 rfl rfl ?_
  refine aw_bipush (v := (-6)) (q := 20) dX10_init_18 rfl rfl ?_
  refine aw_iast (q := 21) (2) dX10_init_20 h_fr (by first | assumption | simp) (by first | assumption | (simp only [← nI_add, ← pk_mul]; rfl) | rfl) (by omega) (by omega) rfl (fun μ4 hg_μ4 => ?_)
  have ha : μ4 _ = some _ := hg_μ4 ▸ (updM_ne (Ne.symm ne)).trans ha
  have h_fr : μ4 _ = some _ := hg_μ4 ▸ updM_eq _ _ _
  have hk4 := upf _ _ _ hk3 hg_μ4
  refine aw_dup (q := 22) dX10_init_21 (by first | rfl | exact zcat_rf _) rfl ?_
  refine aw_iconst (v := 3) (q := 23) dX10_init_22 rfl rfl ?_
  refine aw_iconst (v := 0) (q := 24) dX10_init_23 rfl rfl ?_
  refine aw_iast (q := 25) (3) dX10_init_24 h_fr (by first | assumption | simp) (by first | assumption | (simp only [← nI_add, ← pk_mul]; rfl) | rfl) (by omega) (by omega) rfl (fun μ5 hg_μ5 => ?_)
  have ha : μ5 _ = some _ := hg_μ5 ▸ (updM_ne (Ne.symm ne)).trans ha
  have h_fr : μ5 _ = some _ := hg_μ5 ▸ updM_eq _ _ _
  have hk5 := upf _ _ _ hk4 hg_μ5
  refine aw_putF (q := 28) dX10_init_25 pf_X10_9_10 rfl ha (by first | assumption | simp) (by first | rfl | exact znar_rf _ _ | exact zB_nar _) (by first | rfl | exact zfit_rf _ _ | exact zB_fit _) (Nat.le_of_ble_eq_true rfl) rfl (fun μ6 hg_μ6 => ?_)
  have h_fr : μ6 _ = some _ := hg_μ6 ▸ (updM_ne ne).trans h_fr
  have ha : μ6 _ = some _ := hg_μ6 ▸ updM_eq _ _ _
  simp only [List.set] at ha hg_μ6
  have hk6 : zKp (fun c _ => c = a) μ μ6 := hk5.tr (hg_μ6 ▸ zKp.up)
  have hfin : ∀ j, j < 4 → upd (upd (upd (upd (fun _ => (0 : Int32)) 0 0) 1 0) 2 (-6)) 3 0 j = (if j = 2 then -6 else 0) := by
    intro j hj
    rcases (show j = 0 ∨ j = 1 ∨ j = 2 ∨ j = 3 by omega) with rfl | rfl | rfl | rfl <;> rfl
  rcases hx with rfl | rfl | rfl
  · skip
    first | refine aw_aload_n (i := 0) (q := 29) dX10_init_28 rfl rfl rfl ?_ | refine aw_aloadN_n (i := 0) (q := 29) dX10_init_28 rfl rfl rfl ?_ | refine aw_aloadQ_n (i := 0) (q := 29) dX10_init_28 rfl rfl rfl ?_
    refine aw_iload_n (i := 1) (q := 30) dX10_init_29 rfl rfl rfl ?_
    refine aw_putF (q := 33) dX10_init_30 pf_X10_15_10 rfl ha (by first | assumption | simp) (by first | rfl | exact znar_rf _ _ | exact zB_nar _) (by first | rfl | exact zfit_rf _ _ | exact zB_fit _) (Nat.le_of_ble_eq_true rfl) rfl (fun μ7 hg_μ7 => ?_)
    have h_fr : μ7 _ = some _ := hg_μ7 ▸ (updM_ne ne).trans h_fr
    have ha : μ7 _ = some _ := hg_μ7 ▸ updM_eq _ _ _
    simp only [List.set] at ha hg_μ7
    exact aw_return dX10_init_33 rfl (⟨rfl, fr, _, ne, hn_fr, ha, h_fr, hfin, hk6.tr (hg_μ7 ▸ zKp.up)⟩)
  · skip
    first | refine aw_aload_n (i := 0) (q := 29) dX10_init_28 rfl rfl rfl ?_ | refine aw_aloadN_n (i := 0) (q := 29) dX10_init_28 rfl rfl rfl ?_ | refine aw_aloadQ_n (i := 0) (q := 29) dX10_init_28 rfl rfl rfl ?_
    refine aw_iload_n (i := 1) (q := 30) dX10_init_29 rfl rfl rfl ?_
    refine aw_putF (q := 33) dX10_init_30 pf_X10_15_10 rfl ha (by first | assumption | simp) (by first | rfl | exact znar_rf _ _ | exact zB_nar _) (by first | rfl | exact zfit_rf _ _ | exact zB_fit _) (Nat.le_of_ble_eq_true rfl) rfl (fun μ7 hg_μ7 => ?_)
    have h_fr : μ7 _ = some _ := hg_μ7 ▸ (updM_ne ne).trans h_fr
    have ha : μ7 _ = some _ := hg_μ7 ▸ updM_eq _ _ _
    simp only [List.set] at ha hg_μ7
    exact aw_return dX10_init_33 rfl (⟨rfl, fr, _, ne, hn_fr, ha, h_fr, hfin, hk6.tr (hg_μ7 ▸ zKp.up)⟩)
  · skip
    first | refine aw_aload_n (i := 0) (q := 29) dX10_init_28 rfl rfl rfl ?_ | refine aw_aloadN_n (i := 0) (q := 29) dX10_init_28 rfl rfl rfl ?_ | refine aw_aloadQ_n (i := 0) (q := 29) dX10_init_28 rfl rfl rfl ?_
    refine aw_iload_n (i := 1) (q := 30) dX10_init_29 rfl rfl rfl ?_
    refine aw_putF (q := 33) dX10_init_30 pf_X10_15_10 rfl ha (by first | assumption | simp) (by first | rfl | exact znar_rf _ _ | exact zB_nar _) (by first | rfl | exact zfit_rf _ _ | exact zB_fit _) (Nat.le_of_ble_eq_true rfl) rfl (fun μ7 hg_μ7 => ?_)
    have h_fr : μ7 _ = some _ := hg_μ7 ▸ (updM_ne ne).trans h_fr
    have ha : μ7 _ = some _ := hg_μ7 ▸ updM_eq _ _ _
    simp only [List.set] at ha hg_μ7
    exact aw_return dX10_init_33 rfl (⟨rfl, fr, _, ne, hn_fr, ha, h_fr, hfin, hk6.tr (hg_μ7 ▸ zKp.up)⟩)
end ZLF3
