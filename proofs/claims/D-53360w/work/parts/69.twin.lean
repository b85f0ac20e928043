/-! THE TWIN, part 28: it is made -/
set_option maxRecDepth 100000
def tP0 : zP := fun s i c => if s = 0 ∧ i = 0 then (match c with | 0 => 3 | 1 => 7 | 2 => 50 | 3 => 50 | 4 => 60 | 5 => 1 | _ => 0) else 0
def tR0 : tR := ((0, fun _ _ _ _ => 0), (fun _ => none), (0, fun _ => 0), false)
abbrev oTw0 : va_E := .inr (2, [.null, .null, .null, .int 0, .null, .null, .null, .int 0, .int 0, .null, .null, .null, .int 0, .null, .int 0, .int 0, .int 0])
section ZTW28
variable {G : zG} {μ : zM} {m : Nat}
theorem C2_init (hm : μ m = some ((2, 0), oTw0)) : Meets G 2 MX2_init [.ref m] μ (fun v μ' => v = none ∧ (∃ lam K, zTS G μ' m lam K tP0 tR0) ∧ zKp tTw μ μ') 10 20154 := by
  have k0 : zKp tTw μ μ := zKp.rf
  refine meets_of (by decide +kernel) (Nat.le_of_ble_eq_true rfl) ?_
  first | refine aw_aload_n (i := 0) (q := 1) dX2_init_0 rfl rfl rfl ?_ | refine aw_aloadN_n (i := 0) (q := 1) dX2_init_0 rfl rfl rfl ?_ | refine aw_aloadQ_n (i := 0) (q := 1) dX2_init_0 rfl rfl rfl ?_
  refine aw_objInit (q := 4) dX2_init_1 oi_X2_1 (by decide) (by first | exact Nat.le_of_ble_eq_true rfl | simp [zcat_rf, Value.category]) rfl ?_
  first | refine aw_aload_n (i := 0) (q := 5) dX2_init_4 rfl rfl rfl ?_ | refine aw_aloadN_n (i := 0) (q := 5) dX2_init_4 rfl rfl rfl ?_ | refine aw_aloadQ_n (i := 0) (q := 5) dX2_init_4 rfl rfl rfl ?_
  refine aw_sipush (v := 1980) (q := 8) dX2_init_5 rfl rfl ?_
  refine aw_newa (N := 1980) (q := 10) dX2_init_8 rfl (by omega) (2, 1) (by first | assumption | simp) rfl (fun a1 μ1 hn_a1 hg_μ1 => ?_)
  have hm : μ1 _ = some _ := hg_μ1 ▸ (updM_ne (zneN hm hn_a1)).trans hm
  have h_a1 : μ1 a1 = some _ := hg_μ1 ▸ updM_eq _ _ _
  have k0 := k0.tr (show zKp tTw _ μ1 from hg_μ1 ▸ zKp.new hn_a1)
  have hb := hm
  refine aw_putF (q := 13) dX2_init_10 pf_X2_7_2 rfl hm (by first | assumption | simp) rfl rfl (Nat.le_of_ble_eq_true rfl) rfl (fun μ2 hg_μ2 => ?_)
  have h_a1 : μ2 _ = some _ := hg_μ2 ▸ (updM_ne (zneq h_a1 hm (by simp))).trans h_a1
  have hm : μ2 _ = some _ := hg_μ2 ▸ updM_eq _ _ _
  simp only [List.set] at hm hg_μ2
  have k0 := k0.tr (show zKp tTw _ μ2 from hg_μ2 ▸ zKp.put hb rfl)
  first | refine aw_aload_n (i := 0) (q := 14) dX2_init_13 rfl rfl rfl ?_ | refine aw_aloadN_n (i := 0) (q := 14) dX2_init_13 rfl rfl rfl ?_ | refine aw_aloadQ_n (i := 0) (q := 14) dX2_init_13 rfl rfl rfl ?_
  refine aw_sipush (v := 1980) (q := 17) dX2_init_14 rfl rfl ?_
  refine aw_newa (N := 1980) (q := 19) dX2_init_17 rfl (by omega) (2, 2) (by first | assumption | simp) rfl (fun a2 μ3 hn_a2 hg_μ3 => ?_)
  have hm : μ3 _ = some _ := hg_μ3 ▸ (updM_ne (zneN hm hn_a2)).trans hm
  have h_a1 : μ3 _ = some _ := hg_μ3 ▸ (updM_ne (zneN h_a1 hn_a2)).trans h_a1
  have h_a2 : μ3 a2 = some _ := hg_μ3 ▸ updM_eq _ _ _
  have k0 := k0.tr (show zKp tTw _ μ3 from hg_μ3 ▸ zKp.new hn_a2)
  have hb := hm
  refine aw_putF (q := 22) dX2_init_19 pf_X2_13_2 rfl hm (by first | assumption | simp) rfl rfl (Nat.le_of_ble_eq_true rfl) rfl (fun μ4 hg_μ4 => ?_)
  have h_a1 : μ4 _ = some _ := hg_μ4 ▸ (updM_ne (zneq h_a1 hm (by simp))).trans h_a1
  have h_a2 : μ4 _ = some _ := hg_μ4 ▸ (updM_ne (zneq h_a2 hm (by simp))).trans h_a2
  have hm : μ4 _ = some _ := hg_μ4 ▸ updM_eq _ _ _
  simp only [List.set] at hm hg_μ4
  have k0 := k0.tr (show zKp tTw _ μ4 from hg_μ4 ▸ zKp.put hb rfl)
  first | refine aw_aload_n (i := 0) (q := 23) dX2_init_22 rfl rfl rfl ?_ | refine aw_aloadN_n (i := 0) (q := 23) dX2_init_22 rfl rfl rfl ?_ | refine aw_aloadQ_n (i := 0) (q := 23) dX2_init_22 rfl rfl rfl ?_
  refine aw_sipush (v := 11880) (q := 26) dX2_init_23 rfl rfl ?_
  refine aw_newa (N := 11880) (q := 28) dX2_init_26 rfl (by omega) (2, 3) (by first | assumption | simp) rfl (fun a3 μ5 hn_a3 hg_μ5 => ?_)
  have hm : μ5 _ = some _ := hg_μ5 ▸ (updM_ne (zneN hm hn_a3)).trans hm
  have h_a1 : μ5 _ = some _ := hg_μ5 ▸ (updM_ne (zneN h_a1 hn_a3)).trans h_a1
  have h_a2 : μ5 _ = some _ := hg_μ5 ▸ (updM_ne (zneN h_a2 hn_a3)).trans h_a2
  have h_a3 : μ5 a3 = some _ := hg_μ5 ▸ updM_eq _ _ _
  have k0 := k0.tr (show zKp tTw _ μ5 from hg_μ5 ▸ zKp.new hn_a3)
  have hb := hm
  refine aw_putF (q := 31) dX2_init_28 pf_X2_16_2 rfl hm (by first | assumption | simp) rfl rfl (Nat.le_of_ble_eq_true rfl) rfl (fun μ6 hg_μ6 => ?_)
  have h_a1 : μ6 _ = some _ := hg_μ6 ▸ (updM_ne (zneq h_a1 hm (by simp))).trans h_a1
  have h_a2 : μ6 _ = some _ := hg_μ6 ▸ (updM_ne (zneq h_a2 hm (by simp))).trans h_a2
  have h_a3 : μ6 _ = some _ := hg_μ6 ▸ (updM_ne (zneq h_a3 hm (by simp))).trans h_a3
  have hm : μ6 _ = some _ := hg_μ6 ▸ updM_eq _ _ _
  simp only [List.set] at hm hg_μ6
  have k0 := k0.tr (show zKp tTw _ μ6 from hg_μ6 ▸ zKp.put hb rfl)
  first | refine aw_aload_n (i := 0) (q := 32) dX2_init_31 rfl rfl rfl ?_ | refine aw_aloadN_n (i := 0) (q := 32) dX2_init_31 rfl rfl rfl ?_ | refine aw_aloadQ_n (i := 0) (q := 32) dX2_init_31 rfl rfl rfl ?_
  refine aw_sipush (v := 3960) (q := 35) dX2_init_32 rfl rfl ?_
  refine aw_newa (N := 3960) (q := 37) dX2_init_35 rfl (by omega) (2, 4) (by first | assumption | simp) rfl (fun a4 μ7 hn_a4 hg_μ7 => ?_)
  have hm : μ7 _ = some _ := hg_μ7 ▸ (updM_ne (zneN hm hn_a4)).trans hm
  have h_a1 : μ7 _ = some _ := hg_μ7 ▸ (updM_ne (zneN h_a1 hn_a4)).trans h_a1
  have h_a2 : μ7 _ = some _ := hg_μ7 ▸ (updM_ne (zneN h_a2 hn_a4)).trans h_a2
  have h_a3 : μ7 _ = some _ := hg_μ7 ▸ (updM_ne (zneN h_a3 hn_a4)).trans h_a3
  have h_a4 : μ7 a4 = some _ := hg_μ7 ▸ updM_eq _ _ _
  have k0 := k0.tr (show zKp tTw _ μ7 from hg_μ7 ▸ zKp.new hn_a4)
  have hb := hm
  refine aw_putF (q := 40) dX2_init_37 pf_X2_19_2 rfl hm (by first | assumption | simp) rfl rfl (Nat.le_of_ble_eq_true rfl) rfl (fun μ8 hg_μ8 => ?_)
  have h_a1 : μ8 _ = some _ := hg_μ8 ▸ (updM_ne (zneq h_a1 hm (by simp))).trans h_a1
  have h_a2 : μ8 _ = some _ := hg_μ8 ▸ (updM_ne (zneq h_a2 hm (by simp))).trans h_a2
  have h_a3 : μ8 _ = some _ := hg_μ8 ▸ (updM_ne (zneq h_a3 hm (by simp))).trans h_a3
  have h_a4 : μ8 _ = some _ := hg_μ8 ▸ (updM_ne (zneq h_a4 hm (by simp))).trans h_a4
  have hm : μ8 _ = some _ := hg_μ8 ▸ updM_eq _ _ _
  simp only [List.set] at hm hg_μ8
  have k0 := k0.tr (show zKp tTw _ μ8 from hg_μ8 ▸ zKp.put hb rfl)
  first | refine aw_aload_n (i := 0) (q := 41) dX2_init_40 rfl rfl rfl ?_ | refine aw_aloadN_n (i := 0) (q := 41) dX2_init_40 rfl rfl rfl ?_ | refine aw_aloadQ_n (i := 0) (q := 41) dX2_init_40 rfl rfl rfl ?_
  refine aw_iconst (v := 2) (q := 42) dX2_init_41 rfl rfl ?_
  refine aw_newz (N := 2) (q := 44) dX2_init_42 rfl (by omega) (2, 5) (by first | assumption | simp) rfl (fun a5 μ9 hn_a5 hg_μ9 => ?_)
  have hm : μ9 _ = some _ := hg_μ9 ▸ (updM_ne (zneN hm hn_a5)).trans hm
  have h_a1 : μ9 _ = some _ := hg_μ9 ▸ (updM_ne (zneN h_a1 hn_a5)).trans h_a1
  have h_a2 : μ9 _ = some _ := hg_μ9 ▸ (updM_ne (zneN h_a2 hn_a5)).trans h_a2
  have h_a3 : μ9 _ = some _ := hg_μ9 ▸ (updM_ne (zneN h_a3 hn_a5)).trans h_a3
  have h_a4 : μ9 _ = some _ := hg_μ9 ▸ (updM_ne (zneN h_a4 hn_a5)).trans h_a4
  have h_a5 : μ9 a5 = some _ := hg_μ9 ▸ updM_eq _ _ _
  have k0 := k0.tr (show zKp tTw _ μ9 from hg_μ9 ▸ zKp.new hn_a5)
  have hb := hm
  refine aw_putF (q := 47) dX2_init_44 pf_X2_22_2 rfl hm (by first | assumption | simp) rfl rfl (Nat.le_of_ble_eq_true rfl) rfl (fun μ10 hg_μ10 => ?_)
  have h_a1 : μ10 _ = some _ := hg_μ10 ▸ (updM_ne (zneq h_a1 hm (by simp))).trans h_a1
  have h_a2 : μ10 _ = some _ := hg_μ10 ▸ (updM_ne (zneq h_a2 hm (by simp))).trans h_a2
  have h_a3 : μ10 _ = some _ := hg_μ10 ▸ (updM_ne (zneq h_a3 hm (by simp))).trans h_a3
  have h_a4 : μ10 _ = some _ := hg_μ10 ▸ (updM_ne (zneq h_a4 hm (by simp))).trans h_a4
  have h_a5 : μ10 _ = some _ := hg_μ10 ▸ (updM_ne (zneq h_a5 hm (by simp))).trans h_a5
  have hm : μ10 _ = some _ := hg_μ10 ▸ updM_eq _ _ _
  simp only [List.set] at hm hg_μ10
  have k0 := k0.tr (show zKp tTw _ μ10 from hg_μ10 ▸ zKp.put hb rfl)
  first | refine aw_aload_n (i := 0) (q := 48) dX2_init_47 rfl rfl rfl ?_ | refine aw_aloadN_n (i := 0) (q := 48) dX2_init_47 rfl rfl rfl ?_ | refine aw_aloadQ_n (i := 0) (q := 48) dX2_init_47 rfl rfl rfl ?_
  refine aw_bipush (v := 80) (q := 50) dX2_init_48 rfl rfl ?_
  refine aw_newa (N := 80) (q := 52) dX2_init_50 rfl (by omega) (2, 6) (by first | assumption | simp) rfl (fun a6 μ11 hn_a6 hg_μ11 => ?_)
  have hm : μ11 _ = some _ := hg_μ11 ▸ (updM_ne (zneN hm hn_a6)).trans hm
  have h_a1 : μ11 _ = some _ := hg_μ11 ▸ (updM_ne (zneN h_a1 hn_a6)).trans h_a1
  have h_a2 : μ11 _ = some _ := hg_μ11 ▸ (updM_ne (zneN h_a2 hn_a6)).trans h_a2
  have h_a3 : μ11 _ = some _ := hg_μ11 ▸ (updM_ne (zneN h_a3 hn_a6)).trans h_a3
  have h_a4 : μ11 _ = some _ := hg_μ11 ▸ (updM_ne (zneN h_a4 hn_a6)).trans h_a4
  have h_a5 : μ11 _ = some _ := hg_μ11 ▸ (updM_ne (zneN h_a5 hn_a6)).trans h_a5
  have h_a6 : μ11 a6 = some _ := hg_μ11 ▸ updM_eq _ _ _
  have k0 := k0.tr (show zKp tTw _ μ11 from hg_μ11 ▸ zKp.new hn_a6)
  have hb := hm
  refine aw_putF (q := 55) dX2_init_52 pf_X2_26_2 rfl hm (by first | assumption | simp) rfl rfl (Nat.le_of_ble_eq_true rfl) rfl (fun μ12 hg_μ12 => ?_)
  have h_a1 : μ12 _ = some _ := hg_μ12 ▸ (updM_ne (zneq h_a1 hm (by simp))).trans h_a1
  have h_a2 : μ12 _ = some _ := hg_μ12 ▸ (updM_ne (zneq h_a2 hm (by simp))).trans h_a2
  have h_a3 : μ12 _ = some _ := hg_μ12 ▸ (updM_ne (zneq h_a3 hm (by simp))).trans h_a3
  have h_a4 : μ12 _ = some _ := hg_μ12 ▸ (updM_ne (zneq h_a4 hm (by simp))).trans h_a4
  have h_a5 : μ12 _ = some _ := hg_μ12 ▸ (updM_ne (zneq h_a5 hm (by simp))).trans h_a5
  have h_a6 : μ12 _ = some _ := hg_μ12 ▸ (updM_ne (zneq h_a6 hm (by simp))).trans h_a6
  have hm : μ12 _ = some _ := hg_μ12 ▸ updM_eq _ _ _
  simp only [List.set] at hm hg_μ12
  have k0 := k0.tr (show zKp tTw _ μ12 from hg_μ12 ▸ zKp.put hb rfl)
  first | refine aw_aload_n (i := 0) (q := 56) dX2_init_55 rfl rfl rfl ?_ | refine aw_aloadN_n (i := 0) (q := 56) dX2_init_55 rfl rfl rfl ?_ | refine aw_aloadQ_n (i := 0) (q := 56) dX2_init_55 rfl rfl rfl ?_
  refine aw_bipush (v := 8) (q := 58) dX2_init_56 rfl rfl ?_
  refine aw_newa (N := 8) (q := 60) dX2_init_58 rfl (by omega) (2, 7) (by first | assumption | simp) rfl (fun a7 μ13 hn_a7 hg_μ13 => ?_)
  have hm : μ13 _ = some _ := hg_μ13 ▸ (updM_ne (zneN hm hn_a7)).trans hm
  have h_a1 : μ13 _ = some _ := hg_μ13 ▸ (updM_ne (zneN h_a1 hn_a7)).trans h_a1
  have h_a2 : μ13 _ = some _ := hg_μ13 ▸ (updM_ne (zneN h_a2 hn_a7)).trans h_a2
  have h_a3 : μ13 _ = some _ := hg_μ13 ▸ (updM_ne (zneN h_a3 hn_a7)).trans h_a3
  have h_a4 : μ13 _ = some _ := hg_μ13 ▸ (updM_ne (zneN h_a4 hn_a7)).trans h_a4
  have h_a5 : μ13 _ = some _ := hg_μ13 ▸ (updM_ne (zneN h_a5 hn_a7)).trans h_a5
  have h_a6 : μ13 _ = some _ := hg_μ13 ▸ (updM_ne (zneN h_a6 hn_a7)).trans h_a6
  have h_a7 : μ13 a7 = some _ := hg_μ13 ▸ updM_eq _ _ _
  have k0 := k0.tr (show zKp tTw _ μ13 from hg_μ13 ▸ zKp.new hn_a7)
  have hb := hm
  refine aw_putF (q := 63) dX2_init_60 pf_X2_29_2 rfl hm (by first | assumption | simp) rfl rfl (Nat.le_of_ble_eq_true rfl) rfl (fun μ14 hg_μ14 => ?_)
  have h_a1 : μ14 _ = some _ := hg_μ14 ▸ (updM_ne (zneq h_a1 hm (by simp))).trans h_a1
  have h_a2 : μ14 _ = some _ := hg_μ14 ▸ (updM_ne (zneq h_a2 hm (by simp))).trans h_a2
  have h_a3 : μ14 _ = some _ := hg_μ14 ▸ (updM_ne (zneq h_a3 hm (by simp))).trans h_a3
  have h_a4 : μ14 _ = some _ := hg_μ14 ▸ (updM_ne (zneq h_a4 hm (by simp))).trans h_a4
  have h_a5 : μ14 _ = some _ := hg_μ14 ▸ (updM_ne (zneq h_a5 hm (by simp))).trans h_a5
  have h_a6 : μ14 _ = some _ := hg_μ14 ▸ (updM_ne (zneq h_a6 hm (by simp))).trans h_a6
  have h_a7 : μ14 _ = some _ := hg_μ14 ▸ (updM_ne (zneq h_a7 hm (by simp))).trans h_a7
  have hm : μ14 _ = some _ := hg_μ14 ▸ updM_eq _ _ _
  simp only [List.set] at hm hg_μ14
  have k0 := k0.tr (show zKp tTw _ μ14 from hg_μ14 ▸ zKp.put hb rfl)
  first | refine aw_aload_n (i := 0) (q := 64) dX2_init_63 rfl rfl rfl ?_ | refine aw_aloadN_n (i := 0) (q := 64) dX2_init_63 rfl rfl rfl ?_ | refine aw_aloadQ_n (i := 0) (q := 64) dX2_init_63 rfl rfl rfl ?_
  refine aw_iconst (v := 4) (q := 65) dX2_init_64 rfl rfl ?_
  refine aw_newa (N := 4) (q := 67) dX2_init_65 rfl (by omega) (2, 8) (by first | assumption | simp) rfl (fun a8 μ15 hn_a8 hg_μ15 => ?_)
  have hm : μ15 _ = some _ := hg_μ15 ▸ (updM_ne (zneN hm hn_a8)).trans hm
  have h_a1 : μ15 _ = some _ := hg_μ15 ▸ (updM_ne (zneN h_a1 hn_a8)).trans h_a1
  have h_a2 : μ15 _ = some _ := hg_μ15 ▸ (updM_ne (zneN h_a2 hn_a8)).trans h_a2
  have h_a3 : μ15 _ = some _ := hg_μ15 ▸ (updM_ne (zneN h_a3 hn_a8)).trans h_a3
  have h_a4 : μ15 _ = some _ := hg_μ15 ▸ (updM_ne (zneN h_a4 hn_a8)).trans h_a4
  have h_a5 : μ15 _ = some _ := hg_μ15 ▸ (updM_ne (zneN h_a5 hn_a8)).trans h_a5
  have h_a6 : μ15 _ = some _ := hg_μ15 ▸ (updM_ne (zneN h_a6 hn_a8)).trans h_a6
  have h_a7 : μ15 _ = some _ := hg_μ15 ▸ (updM_ne (zneN h_a7 hn_a8)).trans h_a7
  have h_a8 : μ15 a8 = some _ := hg_μ15 ▸ updM_eq _ _ _
  have k0 := k0.tr (show zKp tTw _ μ15 from hg_μ15 ▸ zKp.new hn_a8)
  have hb := hm
  refine aw_putF (q := 70) dX2_init_67 pf_X2_32_2 rfl hm (by first | assumption | simp) rfl rfl (Nat.le_of_ble_eq_true rfl) rfl (fun μ16 hg_μ16 => ?_)
  have h_a1 : μ16 _ = some _ := hg_μ16 ▸ (updM_ne (zneq h_a1 hm (by simp))).trans h_a1
  have h_a2 : μ16 _ = some _ := hg_μ16 ▸ (updM_ne (zneq h_a2 hm (by simp))).trans h_a2
  have h_a3 : μ16 _ = some _ := hg_μ16 ▸ (updM_ne (zneq h_a3 hm (by simp))).trans h_a3
  have h_a4 : μ16 _ = some _ := hg_μ16 ▸ (updM_ne (zneq h_a4 hm (by simp))).trans h_a4
  have h_a5 : μ16 _ = some _ := hg_μ16 ▸ (updM_ne (zneq h_a5 hm (by simp))).trans h_a5
  have h_a6 : μ16 _ = some _ := hg_μ16 ▸ (updM_ne (zneq h_a6 hm (by simp))).trans h_a6
  have h_a7 : μ16 _ = some _ := hg_μ16 ▸ (updM_ne (zneq h_a7 hm (by simp))).trans h_a7
  have h_a8 : μ16 _ = some _ := hg_μ16 ▸ (updM_ne (zneq h_a8 hm (by simp))).trans h_a8
  have hm : μ16 _ = some _ := hg_μ16 ▸ updM_eq _ _ _
  simp only [List.set] at hm hg_μ16
  have k0 := k0.tr (show zKp tTw _ μ16 from hg_μ16 ▸ zKp.put hb rfl)
  first | refine aw_aload_n (i := 0) (q := 71) dX2_init_70 rfl rfl rfl ?_ | refine aw_aloadN_n (i := 0) (q := 71) dX2_init_70 rfl rfl rfl ?_ | refine aw_aloadQ_n (i := 0) (q := 71) dX2_init_70 rfl rfl rfl ?_
  refine aw_bipush (v := 60) (q := 73) dX2_init_71 rfl rfl ?_
  refine aw_newa (N := 60) (q := 75) dX2_init_73 rfl (by omega) (2, 9) (by first | assumption | simp) rfl (fun a9 μ17 hn_a9 hg_μ17 => ?_)
  have hm : μ17 _ = some _ := hg_μ17 ▸ (updM_ne (zneN hm hn_a9)).trans hm
  have h_a1 : μ17 _ = some _ := hg_μ17 ▸ (updM_ne (zneN h_a1 hn_a9)).trans h_a1
  have h_a2 : μ17 _ = some _ := hg_μ17 ▸ (updM_ne (zneN h_a2 hn_a9)).trans h_a2
  have h_a3 : μ17 _ = some _ := hg_μ17 ▸ (updM_ne (zneN h_a3 hn_a9)).trans h_a3
  have h_a4 : μ17 _ = some _ := hg_μ17 ▸ (updM_ne (zneN h_a4 hn_a9)).trans h_a4
  have h_a5 : μ17 _ = some _ := hg_μ17 ▸ (updM_ne (zneN h_a5 hn_a9)).trans h_a5
  have h_a6 : μ17 _ = some _ := hg_μ17 ▸ (updM_ne (zneN h_a6 hn_a9)).trans h_a6
  have h_a7 : μ17 _ = some _ := hg_μ17 ▸ (updM_ne (zneN h_a7 hn_a9)).trans h_a7
  have h_a8 : μ17 _ = some _ := hg_μ17 ▸ (updM_ne (zneN h_a8 hn_a9)).trans h_a8
  have h_a9 : μ17 a9 = some _ := hg_μ17 ▸ updM_eq _ _ _
  have k0 := k0.tr (show zKp tTw _ μ17 from hg_μ17 ▸ zKp.new hn_a9)
  have hb := hm
  refine aw_putF (q := 78) dX2_init_75 pf_X2_35_2 rfl hm (by first | assumption | simp) rfl rfl (Nat.le_of_ble_eq_true rfl) rfl (fun μ18 hg_μ18 => ?_)
  have h_a1 : μ18 _ = some _ := hg_μ18 ▸ (updM_ne (zneq h_a1 hm (by simp))).trans h_a1
  have h_a2 : μ18 _ = some _ := hg_μ18 ▸ (updM_ne (zneq h_a2 hm (by simp))).trans h_a2
  have h_a3 : μ18 _ = some _ := hg_μ18 ▸ (updM_ne (zneq h_a3 hm (by simp))).trans h_a3
  have h_a4 : μ18 _ = some _ := hg_μ18 ▸ (updM_ne (zneq h_a4 hm (by simp))).trans h_a4
  have h_a5 : μ18 _ = some _ := hg_μ18 ▸ (updM_ne (zneq h_a5 hm (by simp))).trans h_a5
  have h_a6 : μ18 _ = some _ := hg_μ18 ▸ (updM_ne (zneq h_a6 hm (by simp))).trans h_a6
  have h_a7 : μ18 _ = some _ := hg_μ18 ▸ (updM_ne (zneq h_a7 hm (by simp))).trans h_a7
  have h_a8 : μ18 _ = some _ := hg_μ18 ▸ (updM_ne (zneq h_a8 hm (by simp))).trans h_a8
  have h_a9 : μ18 _ = some _ := hg_μ18 ▸ (updM_ne (zneq h_a9 hm (by simp))).trans h_a9
  have hm : μ18 _ = some _ := hg_μ18 ▸ updM_eq _ _ _
  simp only [List.set] at hm hg_μ18
  have k0 := k0.tr (show zKp tTw _ μ18 from hg_μ18 ▸ zKp.put hb rfl)
  first | refine aw_aload_n (i := 0) (q := 79) dX2_init_78 rfl rfl rfl ?_ | refine aw_aloadN_n (i := 0) (q := 79) dX2_init_78 rfl rfl rfl ?_ | refine aw_aloadQ_n (i := 0) (q := 79) dX2_init_78 rfl rfl rfl ?_
  refine aw_sipush (v := 200) (q := 82) dX2_init_79 rfl rfl ?_
  refine aw_newa (N := 200) (q := 84) dX2_init_82 rfl (by omega) (2, 10) (by first | assumption | simp) rfl (fun a10 μ19 hn_a10 hg_μ19 => ?_)
  have hm : μ19 _ = some _ := hg_μ19 ▸ (updM_ne (zneN hm hn_a10)).trans hm
  have h_a1 : μ19 _ = some _ := hg_μ19 ▸ (updM_ne (zneN h_a1 hn_a10)).trans h_a1
  have h_a2 : μ19 _ = some _ := hg_μ19 ▸ (updM_ne (zneN h_a2 hn_a10)).trans h_a2
  have h_a3 : μ19 _ = some _ := hg_μ19 ▸ (updM_ne (zneN h_a3 hn_a10)).trans h_a3
  have h_a4 : μ19 _ = some _ := hg_μ19 ▸ (updM_ne (zneN h_a4 hn_a10)).trans h_a4
  have h_a5 : μ19 _ = some _ := hg_μ19 ▸ (updM_ne (zneN h_a5 hn_a10)).trans h_a5
  have h_a6 : μ19 _ = some _ := hg_μ19 ▸ (updM_ne (zneN h_a6 hn_a10)).trans h_a6
  have h_a7 : μ19 _ = some _ := hg_μ19 ▸ (updM_ne (zneN h_a7 hn_a10)).trans h_a7
  have h_a8 : μ19 _ = some _ := hg_μ19 ▸ (updM_ne (zneN h_a8 hn_a10)).trans h_a8
  have h_a9 : μ19 _ = some _ := hg_μ19 ▸ (updM_ne (zneN h_a9 hn_a10)).trans h_a9
  have h_a10 : μ19 a10 = some _ := hg_μ19 ▸ updM_eq _ _ _
  have k0 := k0.tr (show zKp tTw _ μ19 from hg_μ19 ▸ zKp.new hn_a10)
  have hb := hm
  refine aw_putF (q := 87) dX2_init_84 pf_X2_38_2 rfl hm (by first | assumption | simp) rfl rfl (Nat.le_of_ble_eq_true rfl) rfl (fun μ20 hg_μ20 => ?_)
  have h_a1 : μ20 _ = some _ := hg_μ20 ▸ (updM_ne (zneq h_a1 hm (by simp))).trans h_a1
  have h_a2 : μ20 _ = some _ := hg_μ20 ▸ (updM_ne (zneq h_a2 hm (by simp))).trans h_a2
  have h_a3 : μ20 _ = some _ := hg_μ20 ▸ (updM_ne (zneq h_a3 hm (by simp))).trans h_a3
  have h_a4 : μ20 _ = some _ := hg_μ20 ▸ (updM_ne (zneq h_a4 hm (by simp))).trans h_a4
  have h_a5 : μ20 _ = some _ := hg_μ20 ▸ (updM_ne (zneq h_a5 hm (by simp))).trans h_a5
  have h_a6 : μ20 _ = some _ := hg_μ20 ▸ (updM_ne (zneq h_a6 hm (by simp))).trans h_a6
  have h_a7 : μ20 _ = some _ := hg_μ20 ▸ (updM_ne (zneq h_a7 hm (by simp))).trans h_a7
  have h_a8 : μ20 _ = some _ := hg_μ20 ▸ (updM_ne (zneq h_a8 hm (by simp))).trans h_a8
  have h_a9 : μ20 _ = some _ := hg_μ20 ▸ (updM_ne (zneq h_a9 hm (by simp))).trans h_a9
  have h_a10 : μ20 _ = some _ := hg_μ20 ▸ (updM_ne (zneq h_a10 hm (by simp))).trans h_a10
  have hm : μ20 _ = some _ := hg_μ20 ▸ updM_eq _ _ _
  simp only [List.set] at hm hg_μ20
  have k0 := k0.tr (show zKp tTw _ μ20 from hg_μ20 ▸ zKp.put hb rfl)
  first | refine aw_aload_n (i := 0) (q := 88) dX2_init_87 rfl rfl rfl ?_ | refine aw_aloadN_n (i := 0) (q := 88) dX2_init_87 rfl rfl rfl ?_ | refine aw_aloadQ_n (i := 0) (q := 88) dX2_init_87 rfl rfl rfl ?_
  refine aw_getfield (q := 91) dX2_init_88 gf_X2_7_2 (by assumption) rfl rfl ?_
  refine aw_iconst (v := 0) (q := 92) dX2_init_91 rfl rfl ?_
  refine aw_iconst (v := 3) (q := 93) dX2_init_92 rfl rfl ?_
  let lam : Nat → Nat := fun r => match r with | 1 => a1 | 2 => a2 | 3 => a3 | 4 => a4 | 5 => a5 | 6 => a6 | 7 => a7 | 8 => a8 | 9 => a9 | _ => a10
  have hT : zTP G μ20 m lam (setK (fun _ _ => 0) 1 (fun _ => 0)) (fun _ _ _ => 0) := by
    rw [setK_self (fun _ _ => (0 : Int32)) 1]
    refine ⟨⟨hm, h_a1, h_a2, h_a3, h_a4, h_a5, h_a6, h_a7, h_a8, h_a9, h_a10⟩, fun _ _ _ _ _ _ => rfl, fun c _ _ => ⟨rfl, Nat.zero_le _⟩⟩
  have hk := k0
  have hm := hT.m
  have h1 := hT.a1
  refine aw_iast (q := 94) (0) dX2_init_93 h1 (by first | assumption | simp) (by first | assumption | (simp only [← nI_add, ← pk_mul]; rfl) | rfl) (by omega) (by omega) rfl (fun μt1 hg_μt1 => ?_)
  have h1 : μt1 _ = some _ := hg_μt1 ▸ updM_eq _ _ _
  obtain ⟨fμt1, hT, hk⟩ := hT.st' hk (s := 0) (i := 0) (c := 0) (by omega) (show 0 < 1 by omega) (show 0 < 20 by omega) (by first | (simp only [tB, tW]; done) | (simp only [tB, tW]; omega)) hg_μt1 (hT.2.2.upd (by omega))
  have hm := hT.m
  have h1 := hT.a1
  first | refine aw_aload_n (i := 0) (q := 95) dX2_init_94 rfl rfl rfl ?_ | refine aw_aloadN_n (i := 0) (q := 95) dX2_init_94 rfl rfl rfl ?_ | refine aw_aloadQ_n (i := 0) (q := 95) dX2_init_94 rfl rfl rfl ?_
  refine aw_getfield (q := 98) dX2_init_95 gf_X2_7_2 (by assumption) rfl rfl ?_
  refine aw_iconst (v := 1) (q := 99) dX2_init_98 rfl rfl ?_
  refine aw_bipush (v := 7) (q := 101) dX2_init_99 rfl rfl ?_
  refine aw_iast (q := 102) (1) dX2_init_101 h1 (by first | assumption | simp) (by first | assumption | (simp only [← nI_add, ← pk_mul]; rfl) | rfl) (by omega) (by omega) rfl (fun μt2 hg_μt2 => ?_)
  have h1 : μt2 _ = some _ := hg_μt2 ▸ updM_eq _ _ _
  obtain ⟨fμt2, hT, hk⟩ := hT.st' hk (s := 0) (i := 0) (c := 1) (by omega) (show 0 < 1 by omega) (show 1 < 20 by omega) (by first | (simp only [tB, tW]; done) | (simp only [tB, tW]; omega)) hg_μt2 (hT.2.2.upd (by omega))
  have hm := hT.m
  have h1 := hT.a1
  first | refine aw_aload_n (i := 0) (q := 103) dX2_init_102 rfl rfl rfl ?_ | refine aw_aloadN_n (i := 0) (q := 103) dX2_init_102 rfl rfl rfl ?_ | refine aw_aloadQ_n (i := 0) (q := 103) dX2_init_102 rfl rfl rfl ?_
  refine aw_getfield (q := 106) dX2_init_103 gf_X2_7_2 (by assumption) rfl rfl ?_
  refine aw_iconst (v := 2) (q := 107) dX2_init_106 rfl rfl ?_
  refine aw_bipush (v := 50) (q := 109) dX2_init_107 rfl rfl ?_
  refine aw_iast (q := 110) (2) dX2_init_109 h1 (by first | assumption | simp) (by first | assumption | (simp only [← nI_add, ← pk_mul]; rfl) | rfl) (by omega) (by omega) rfl (fun μt3 hg_μt3 => ?_)
  have h1 : μt3 _ = some _ := hg_μt3 ▸ updM_eq _ _ _
  obtain ⟨fμt3, hT, hk⟩ := hT.st' hk (s := 0) (i := 0) (c := 2) (by omega) (show 0 < 1 by omega) (show 2 < 20 by omega) (by first | (simp only [tB, tW]; done) | (simp only [tB, tW]; omega)) hg_μt3 (hT.2.2.upd (by omega))
  have hm := hT.m
  have h1 := hT.a1
  first | refine aw_aload_n (i := 0) (q := 111) dX2_init_110 rfl rfl rfl ?_ | refine aw_aloadN_n (i := 0) (q := 111) dX2_init_110 rfl rfl rfl ?_ | refine aw_aloadQ_n (i := 0) (q := 111) dX2_init_110 rfl rfl rfl ?_
  refine aw_getfield (q := 114) dX2_init_111 gf_X2_7_2 (by assumption) rfl rfl ?_
  refine aw_iconst (v := 3) (q := 115) dX2_init_114 rfl rfl ?_
  refine aw_bipush (v := 50) (q := 117) dX2_init_115 rfl rfl ?_
  refine aw_iast (q := 118) (3) dX2_init_117 h1 (by first | assumption | simp) (by first | assumption | (simp only [← nI_add, ← pk_mul]; rfl) | rfl) (by omega) (by omega) rfl (fun μt4 hg_μt4 => ?_)
  have h1 : μt4 _ = some _ := hg_μt4 ▸ updM_eq _ _ _
  obtain ⟨fμt4, hT, hk⟩ := hT.st' hk (s := 0) (i := 0) (c := 3) (by omega) (show 0 < 1 by omega) (show 3 < 20 by omega) (by first | (simp only [tB, tW]; done) | (simp only [tB, tW]; omega)) hg_μt4 (hT.2.2.upd (by omega))
  have hm := hT.m
  have h1 := hT.a1
  first | refine aw_aload_n (i := 0) (q := 119) dX2_init_118 rfl rfl rfl ?_ | refine aw_aloadN_n (i := 0) (q := 119) dX2_init_118 rfl rfl rfl ?_ | refine aw_aloadQ_n (i := 0) (q := 119) dX2_init_118 rfl rfl rfl ?_
  refine aw_getfield (q := 122) dX2_init_119 gf_X2_7_2 (by assumption) rfl rfl ?_
  refine aw_iconst (v := 4) (q := 123) dX2_init_122 rfl rfl ?_
  refine aw_bipush (v := 60) (q := 125) dX2_init_123 rfl rfl ?_
  refine aw_iast (q := 126) (4) dX2_init_125 h1 (by first | assumption | simp) (by first | assumption | (simp only [← nI_add, ← pk_mul]; rfl) | rfl) (by omega) (by omega) rfl (fun μt5 hg_μt5 => ?_)
  have h1 : μt5 _ = some _ := hg_μt5 ▸ updM_eq _ _ _
  obtain ⟨fμt5, hT, hk⟩ := hT.st' hk (s := 0) (i := 0) (c := 4) (by omega) (show 0 < 1 by omega) (show 4 < 20 by omega) (by first | (simp only [tB, tW]; done) | (simp only [tB, tW]; omega)) hg_μt5 (hT.2.2.upd (by omega))
  have hm := hT.m
  have h1 := hT.a1
  first | refine aw_aload_n (i := 0) (q := 127) dX2_init_126 rfl rfl rfl ?_ | refine aw_aloadN_n (i := 0) (q := 127) dX2_init_126 rfl rfl rfl ?_ | refine aw_aloadQ_n (i := 0) (q := 127) dX2_init_126 rfl rfl rfl ?_
  refine aw_getfield (q := 130) dX2_init_127 gf_X2_7_2 (by assumption) rfl rfl ?_
  refine aw_iconst (v := 5) (q := 131) dX2_init_130 rfl rfl ?_
  refine aw_iconst (v := 1) (q := 132) dX2_init_131 rfl rfl ?_
  refine aw_iast (q := 133) (5) dX2_init_132 h1 (by first | assumption | simp) (by first | assumption | (simp only [← nI_add, ← pk_mul]; rfl) | rfl) (by omega) (by omega) rfl (fun μe hg_μe => ?_)
  have h1 : μe _ = some _ := hg_μe ▸ updM_eq _ _ _
  obtain ⟨fμe, hT, hk⟩ := hT.st' hk (s := 0) (i := 0) (c := 5) (by omega) (show 0 < 1 by omega) (show 5 < 20 by omega) (by first | (simp only [tB, tW]; done) | (simp only [tB, tW]; omega)) hg_μe (hT.2.2.upd (by omega))
  have hm := hT.m
  have h1 := hT.a1
  have eP : updP (updP (updP (updP (updP (updP (fun _ _ _ => 0) 0 0 0 3) 0 0 1 7) 0 0 2 50) 0 0 3 50) 0 0 4 60) 0 0 5 1 = tP0 := by
    funext s i c
    unfold tP0 updP
    by_cases h : s = 0 ∧ i = 0
    · obtain ⟨rfl, rfl⟩ := h
      match c with
      | 0 => rfl
      | 1 => rfl
      | 2 => rfl
      | 3 => rfl
      | 4 => rfl
      | 5 => rfl
      | c + 6 => simp
    · rw [if_neg h]
      simp only [show ¬ (s = 0 ∧ i = 0 ∧ c = 5) by omega, show ¬ (s = 0 ∧ i = 0 ∧ c = 4) by omega, show ¬ (s = 0 ∧ i = 0 ∧ c = 3) by omega, show ¬ (s = 0 ∧ i = 0 ∧ c = 2) by omega, show ¬ (s = 0 ∧ i = 0 ∧ c = 1) by omega, show ¬ (s = 0 ∧ i = 0 ∧ c = 0) by omega, if_false]
  rw [eP] at hT
  have hrest : tRest (setK (fun _ _ => 0) 1 fμe) tR0 := ⟨rfl, by decide, fun u hu => by (have : u < 0 := hu; omega), fun p hp => rfl, fun j hj => by (have : j < 0 := hj; omega), rfl, by decide, rfl⟩
  exact aw_return dX2_init_133 rfl (⟨rfl, ⟨lam, _, hT, hrest⟩, hk⟩)
end ZTW28
