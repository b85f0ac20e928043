/-! FLOATS: rows; ceil; a table's size and threshold -/
set_option maxRecDepth 100000
section ZFL
variable {G : zG} {d : Nat} {Y : zMI} {post : Option Value → zM → Prop} {bc bs pc q : Nat} {L : List (Nat × Value)} {S : List Value} {μ : zM}
theorem aw_fmul {x y : UInt32} (hdg : decode Y.2.1 pc = .ok (.fmul, 1)) (hne : vf_n32 (FP.fmul x y)) (hq : pc + 1 = q) (k : AW G d Y post bc bs q L (.float (FP.fmul x y) :: S) μ) : AW G d Y post bc bs pc L (.float y :: .float x :: S) μ := by
  subst hq
  intro p l e s m args below meth c H locs cells slots MC MS ls X hl hH hS hc hs
  exact lv_fmul X.1 X.2.1 hdg hne (k p l e s m args below meth c H locs cells slots MC MS ls X hl hH hS hc hs)
theorem aw_fcmp {x y : UInt32} {op : CmpOp} (hdg : decode Y.2.1 pc = .ok (.fcmp op, 1)) (hq : pc + 1 = q) (k : AW G d Y post bc bs q L (.int (Op.cmpValue (FP.fcmp x y) op) :: S) μ) : AW G d Y post bc bs pc L (.float y :: .float x :: S) μ := by
  subst hq
  intro p l e s m args below meth c H locs cells slots MC MS ls X hl hH hS hc hs
  exact lv_fcmp X.1 X.2.1 hdg (k p l e s m args below meth c H locs cells slots MC MS ls X hl hH hS hc hs)
theorem aw_f2i {x : UInt32} (hdg : decode Y.2.1 pc = .ok (.f2i, 1)) (hq : pc + 1 = q) (k : AW G d Y post bc bs q L (.int (FP.f2i x) :: S) μ) : AW G d Y post bc bs pc L (.float x :: S) μ := by
  subst hq
  intro p l e s m args below meth c H locs cells slots MC MS ls X hl hH hS hc hs
  exact lv_f2i X.1 X.2.1 hdg (k p l e s m args below meth c H locs cells slots MC MS ls X hl hH hS hc hs)
theorem aw_ldcf {index : Nat} {v : UInt32} (hdg : decode Y.2.1 pc = .ok (.ldc index, 2)) (hw : Jvm.Cond.constantFloat Y.1.cls index v ∈ lw_all) (hq : pc + 2 = q) (k : AW G d Y post bc bs q L (.float v :: S) μ) : AW G d Y post bc bs pc L S μ := by
  subst hq
  intro p l e s m args below meth c H locs cells slots MC MS ls X hl hH hS hc hs
  exact lv_ldcf X.1 X.2.1 X.2.2.2.2.2.1 (X.2.2.2.2.2.2.2.1 _ hw) hdg (k p l e s m args below meth c H locs cells slots MC MS ls X hl hH hS hc hs)
theorem aw_ldc2d {index : Nat} {v : UInt64} (hdg : decode Y.2.1 pc = .ok (.ldc2_w index, 3)) (hw : Jvm.Cond.constantDouble Y.1.cls index v ∈ lw_all) (hq : pc + 3 = q) (k : AW G d Y post bc bs q L (.double v :: S) μ) : AW G d Y post bc bs pc L S μ := by
  subst hq
  intro p l e s m args below meth c H locs cells slots MC MS ls X hl hH hS hc hs
  exact lv_ldc2d X.1 X.2.1 X.2.2.2.2.2.1 (X.2.2.2.2.2.2.2.1 _ hw) hdg (k p l e s m args below meth c H locs cells slots MC MS ls X hl hH hS hc hs)
theorem aw_i2d {x : Int32} (hdg : decode Y.2.1 pc = .ok (.i2d, 1)) (hq : pc + 1 = q) (k : AW G d Y post bc bs q L (.double (FP.i2d x) :: S) μ) : AW G d Y post bc bs pc L (.int x :: S) μ := by
  subst hq
  intro p l e s m args below meth c H locs cells slots MC MS ls X hl hH hS hc hs
  exact lv_i2d X.1 X.2.1 hdg (k p l e s m args below meth c H locs cells slots MC MS ls X hl hH hS hc hs)
theorem aw_d2i {x : UInt64} (hdg : decode Y.2.1 pc = .ok (.d2i, 1)) (hq : pc + 1 = q) (k : AW G d Y post bc bs q L (.int (FP.d2i x) :: S) μ) : AW G d Y post bc bs pc L (.double x :: S) μ := by
  subst hq
  intro p l e s m args below meth c H locs cells slots MC MS ls X hl hH hS hc hs
  exact lv_d2i X.1 X.2.1 hdg (k p l e s m args below meth c H locs cells slots MC MS ls X hl hH hS hc hs)
theorem aw_f2d {x : UInt32} (hdg : decode Y.2.1 pc = .ok (.f2d, 1)) (hne : vf_n64 (FP.f2d x)) (hq : pc + 1 = q) (k : AW G d Y post bc bs q L (.double (FP.f2d x) :: S) μ) : AW G d Y post bc bs pc L (.float x :: S) μ := by
  subst hq
  intro p l e s m args below meth c H locs cells slots MC MS ls X hl hH hS hc hs
  exact lv_f2d X.1 X.2.1 hdg hne (k p l e s m args below meth c H locs cells slots MC MS ls X hl hH hS hc hs)
theorem aw_ddiv {x y : UInt64} (hdg : decode Y.2.1 pc = .ok (.ddiv, 1)) (hne : vf_n64 (FP.ddiv x y)) (hq : pc + 1 = q) (k : AW G d Y post bc bs q L (.double (FP.ddiv x y) :: S) μ) : AW G d Y post bc bs pc L (.double y :: .double x :: S) μ := by
  subst hq
  intro p l e s m args below meth c H locs cells slots MC MS ls X hl hH hS hc hs
  exact lv_ddiv X.1 X.2.1 hdg hne (k p l e s m args below meth c H locs cells slots MC MS ls X hl hH hS hc hs)
theorem aw_dmul {x y : UInt64} (hdg : decode Y.2.1 pc = .ok (.dmul, 1)) (hne : vf_n64 (FP.dmul x y)) (hq : pc + 1 = q) (k : AW G d Y post bc bs q L (.double (FP.dmul x y) :: S) μ) : AW G d Y post bc bs pc L (.double y :: .double x :: S) μ := by
  subst hq
  intro p l e s m args below meth c H locs cells slots MC MS ls X hl hH hS hc hs
  exact lv_dmul X.1 X.2.1 hdg hne (k p l e s m args below meth c H locs cells slots MC MS ls X hl hH hS hc hs)
theorem aw_dadd {x y : UInt64} (hdg : decode Y.2.1 pc = .ok (.dadd, 1)) (hne : vf_n64 (FP.dadd x y)) (hq : pc + 1 = q) (k : AW G d Y post bc bs q L (.double (FP.dadd x y) :: S) μ) : AW G d Y post bc bs pc L (.double y :: .double x :: S) μ := by
  subst hq
  intro p l e s m args below meth c H locs cells slots MC MS ls X hl hH hS hc hs
  exact lv_dadd X.1 X.2.1 hdg hne (k p l e s m args below meth c H locs cells slots MC MS ls X hl hH hS hc hs)
theorem aw_dcmp {x y : UInt64} {op : CmpOp} (hdg : decode Y.2.1 pc = .ok (.dcmp op, 1)) (hq : pc + 1 = q) (k : AW G d Y post bc bs q L (.int (Op.cmpValue (FP.dcmp x y) op) :: S) μ) : AW G d Y post bc bs pc L (.double y :: .double x :: S) μ := by
  subst hq
  intro p l e s m args below meth c H locs cells slots MC MS ls X hl hH hS hc hs
  exact lv_dcmp X.1 X.2.1 hdg (k p l e s m args below meth c H locs cells slots MC MS ls X hl hH hS hc hs)
theorem aw_dconst0 (hdg : decode Y.2.1 pc = .ok (.dconst 0, 1)) (hq : pc + 1 = q) (k : AW G d Y post bc bs q L (.double FP.dconst0 :: S) μ) : AW G d Y post bc bs pc L S μ := by
  subst hq
  intro p l e s m args below meth c H locs cells slots MC MS ls X hl hH hS hc hs
  exact lv_dconst0 X.1 X.2.1 hdg (k p l e s m args below meth c H locs cells slots MC MS ls X hl hH hS hc hs)
theorem aw_dconst1 (hdg : decode Y.2.1 pc = .ok (.dconst 1, 1)) (hq : pc + 1 = q) (k : AW G d Y post bc bs q L (.double FP.dconst1 :: S) μ) : AW G d Y post bc bs pc L S μ := by
  subst hq
  intro p l e s m args below meth c H locs cells slots MC MS ls X hl hH hS hc hs
  exact lv_dconst1 X.1 X.2.1 hdg (k p l e s m args below meth c H locs cells slots MC MS ls X hl hH hS hc hs)
theorem aw_dreturn {v : UInt64} (hdg : decode Y.2.1 pc = .ok (.dreturn, 1)) (hr : Y.2.2.2 = some .double) (hp : post (some (.double v)) μ) : AW G d Y post bc bs pc L [.double v] μ := by
  intro p l e s m args below meth c H locs cells slots MC MS ls X hl hH hS hc hs
  refine W.widen (k := MC) (n := MS) (by omega) (by omega) ?_
  exact W.dret X.1 X.2.1 (X.2.2.1.trans hr) (fun t ht hW => ⟨⟨_, μ, rfl, hp, by rw [ht]; exact hH⟩, hS.F ht⟩) hS.2.2 hdg X.2.2.2.1
def zD2L (own : String) (idx : Nat) : Prop := Cond.methodLink own idx ⟨"java/lang/Double", "doubleToRawLongBits", "(D)J"⟩ ∈ lw_all ∧ Cond.native ⟨"java/lang/Double", "doubleToRawLongBits", "(D)J"⟩ ∈ lw_all ∧ Cond.static ⟨"java/lang/Double", "doubleToRawLongBits", "(D)J"⟩ ∈ lw_all ∧ Cond.initialized "java/lang/Double" ∈ lw_all
theorem aw_d2l {idx : Nat} {b : UInt64} (hdg : decode Y.2.1 pc = .ok (.invokestatic idx, 3)) (hs0 : zD2L Y.1.cls idx) (hd : 1 ≤ d) (hcat : (S.map fun v => v.category).sum ≤ 8) (hq : pc + 3 = q) (k : AW G d Y post bc bs q L (.long b.toInt64 :: S) μ) : AW G d Y post bc bs pc L (.double b :: S) μ := by
  subst hq
  intro p l e s m args below meth c H locs cells slots MC MS ls X hl hH hS hc hs
  have kk := k p l e s m args below meth c H locs cells slots MC MS ls X hl hH hS hc hs
  obtain ⟨x1, x2, x3, x4, x5, hown, x7, hts, hws⟩ := X
  exact vn_d2l x1 x2 (x5.trans hl.1.symm) hown (hts _ hs0.1) (hts _ hs0.2.1) (hts _ hs0.2.2.1) (hts _ hs0.2.2.2) (show 1 ≤ d from hd) (show _ ≤ 40 * d by omega) hdg kk
def zL2D (own : String) (idx : Nat) : Prop := Cond.methodLink own idx ⟨"java/lang/Double", "longBitsToDouble", "(J)D"⟩ ∈ lw_all ∧ Cond.native ⟨"java/lang/Double", "longBitsToDouble", "(J)D"⟩ ∈ lw_all ∧ Cond.static ⟨"java/lang/Double", "longBitsToDouble", "(J)D"⟩ ∈ lw_all ∧ Cond.initialized "java/lang/Double" ∈ lw_all
theorem aw_l2dB {idx : Nat} {b : Int64} (hdg : decode Y.2.1 pc = .ok (.invokestatic idx, 3)) (hs0 : zL2D Y.1.cls idx) (hv : vn_snl2d b = false) (hd : 1 ≤ d) (hcat : (S.map fun v => v.category).sum ≤ 8) (hq : pc + 3 = q) (k : AW G d Y post bc bs q L (.double b.toUInt64 :: S) μ) : AW G d Y post bc bs pc L (.long b :: S) μ := by
  subst hq
  intro p l e s m args below meth c H locs cells slots MC MS ls X hl hH hS hc hs
  have kk := k p l e s m args below meth c H locs cells slots MC MS ls X hl hH hS hc hs
  obtain ⟨x1, x2, x3, x4, x5, hown, x7, hts, hws⟩ := X
  exact vn_l2d x1 x2 (x5.trans hl.1.symm) hown (hts _ hs0.1) (hts _ hs0.2.1) (hts _ hs0.2.2.1) (hts _ hs0.2.2.2) hv (show 1 ≤ d from hd) (show _ ≤ 40 * d by omega) hdg kk
end ZFL
theorem sD_J13_79 : zD2L RJ13 79 := ⟨q709, q711, q710, q103⟩
theorem sD_J15_77 : zD2L RJ15 77 := ⟨q716, q711, q710, q103⟩
theorem sL_J15_89 : zL2D RJ15 89 := ⟨q719, q721, q720, q103⟩
section ZCE
variable {G : zG} {μ : zM}
def zEx (x : UInt64) : Int32 := ((x.toInt64 &&& 9218868437227405312) >>> ((52 : Int32).toInt64 &&& 63) - 1023).toInt32
theorem C_getExponent {x : UInt64} : Meets G 2 MJ13_getExponent [.double x] μ (zPure (.int (zEx x)) μ) 0 0 := by
  refine meets_of (by decide +kernel) (Nat.le_of_ble_eq_true rfl) ?_
  refine aw_dload_n (i := 0) (q := 1) dJ13_getExponent_0 rfl rfl rfl ?_
  refine aw_d2l (q := 4) dJ13_getExponent_1 sD_J13_79 (by decide) (Nat.le_of_ble_eq_true rfl) rfl ?_
  refine aw_ldc2 (q := 7) dJ13_getExponent_4 q712 rfl ?_
  refine aw_land (q := 8) dJ13_getExponent_7 rfl ?_
  refine aw_bipush (v := 52) (q := 10) dJ13_getExponent_8 rfl rfl ?_
  refine aw_lshr (q := 11) dJ13_getExponent_10 rfl rfl ?_
  refine aw_ldc2 (q := 14) dJ13_getExponent_11 q713 rfl ?_
  refine aw_lsub (q := 15) dJ13_getExponent_14 rfl ?_
  refine aw_l2i (q := 16) dJ13_getExponent_15 rfl rfl ?_
  exact aw_ireturn dJ13_getExponent_16 rfl (by first | rfl | exact zB_nar _) (⟨rfl, rfl⟩)
def zCMk (x : UInt64) : Int64 := (4503599627370495 : Int64) >>> ((zEx x).toInt64 &&& 63)
def zCV0 (x : UInt64) : Int64 := x.toInt64 &&& (zCMk x ^^^ -1)
def zCeil (x : UInt64) : UInt64 := if lg_cmp (zCMk x &&& x.toInt64) 0 = 0 then x else FP.dadd (zCV0 x).toUInt64 FP.dconst1
def zN64 (r : UInt64) : Bool := decide (r &&& 0x7fffffffffffffff ≤ 0x7ff0000000000000)
theorem zN64.ok {r : UInt64} (h : zN64 r = true) : vf_n64 r := by
  have e : decide (r &&& 0x7fffffffffffffff ≤ 0x7ff0000000000000) = true := h
  unfold vf_n64
  exact of_decide_eq_true e
def zN32 (r : UInt32) : Bool := decide (r &&& 0x7fffffff ≤ 0x7f800000)
theorem zN32.ok {r : UInt32} (h : zN32 r = true) : vf_n32 r := by
  have e : decide (r &&& 0x7fffffff ≤ 0x7f800000) = true := h
  unfold vf_n32
  exact of_decide_eq_true e
def zCeB (x : UInt64) : Bool := decide (0 ≤ zEx x) && (decide (zEx x < 52) && (decide (lg_cmp (zCMk x &&& x.toInt64) 0 = 0) || (!(vn_snl2d (zCV0 x)) && (zN64 (FP.dmul FP.dconst1 x) && (decide (0 < Op.cmpValue (FP.dcmp (FP.dmul FP.dconst1 x) FP.dconst0) .l) && zN64 (FP.dadd (zCV0 x).toUInt64 FP.dconst1))))))
theorem C_floorOrCeil {x y : UInt64} (h : zCeB x = true) : Meets G 3 MJ15_floorOrCeil [.double x, .double y, .double FP.dconst1, .double FP.dconst1] μ (zPure (.double (zCeil x)) μ) 0 0 := by
  simp only [zCeB, Bool.and_eq_true, Bool.or_eq_true, decide_eq_true_eq, Bool.not_eq_true'] at h
  obtain ⟨h1, h2, h3⟩ := h
  refine meets_of (by decide +kernel) (Nat.le_of_ble_eq_true rfl) ?_
  refine aw_dload_n (i := 0) (q := 1) dJ15_floorOrCeil_0 rfl rfl rfl ?_
  refine aw_callS (q := 4) dJ15_floorOrCeil_1 (C_getExponent) cs_J15_66 rfl rfl (by decide) (by decide) (by first | exact Nat.le_of_ble_eq_true rfl | simp [zcat_rf, Value.category]) rfl (zpk ?_)
  refine aw_istore (q := 6) dJ15_floorOrCeil_4 (by decide) rfl ?_
  refine aw_iload (q := 8) dJ15_floorOrCeil_6 rfl rfl ?_
  refine aw_if_ge (tgt := 34) (q := 11) dJ15_floorOrCeil_8 (by decide) rfl (fun _ => ?_) (fun hZ => absurd (h1) hZ)
  refine aw_iload (q := 36) dJ15_floorOrCeil_34 rfl rfl ?_
  refine aw_bipush (v := 52) (q := 38) dJ15_floorOrCeil_36 rfl rfl ?_
  refine aw_icmp_lt (tgt := 43) (q := 41) dJ15_floorOrCeil_38 (by decide) rfl (fun _ => ?_) (fun hZ => absurd (h2) hZ)
  refine aw_getstatic (v := .int 1) (q := 46) dJ15_floorOrCeil_43 gs_J15_70 (by simp [zStL]) rfl ?_
  refine aw_if_ne (tgt := 69) (q := 49) dJ15_floorOrCeil_46 (by decide) rfl (fun _ => ?_) (fun hZ => absurd hZ ((by decide)))
  refine aw_dload_n (i := 0) (q := 70) dJ15_floorOrCeil_69 rfl rfl rfl ?_
  refine aw_d2l (q := 73) dJ15_floorOrCeil_70 sD_J15_77 (by decide) (Nat.le_of_ble_eq_true rfl) rfl ?_
  refine aw_lstore (q := 75) dJ15_floorOrCeil_73 (by decide) rfl ?_
  refine aw_ldc2 (q := 78) dJ15_floorOrCeil_75 q717 rfl ?_
  refine aw_iload (q := 80) dJ15_floorOrCeil_78 rfl rfl ?_
  refine aw_lshr (q := 81) dJ15_floorOrCeil_80 rfl rfl ?_
  refine aw_lstore (q := 83) dJ15_floorOrCeil_81 (by decide) rfl ?_
  refine aw_lload (q := 85) dJ15_floorOrCeil_83 rfl rfl ?_
  refine aw_lload (q := 87) dJ15_floorOrCeil_85 rfl rfl ?_
  refine aw_land (q := 88) dJ15_floorOrCeil_87 rfl ?_
  refine aw_lconst (v := 0) (q := 89) dJ15_floorOrCeil_88 rfl rfl ?_
  refine aw_lcmp (q := 90) dJ15_floorOrCeil_89 rfl ?_
  refine aw_if_ne (tgt := 95) (q := 93) dJ15_floorOrCeil_90 (by decide) rfl (fun hc => ?_) (fun hc => ?_)
  · refine aw_lload (q := 97) dJ15_floorOrCeil_95 rfl rfl ?_
    refine aw_lload (q := 99) dJ15_floorOrCeil_97 rfl rfl ?_
    refine aw_ldc2 (q := 102) dJ15_floorOrCeil_99 q718 rfl ?_
    refine aw_lxor (q := 103) dJ15_floorOrCeil_102 rfl ?_
    refine aw_land (q := 104) dJ15_floorOrCeil_103 rfl ?_
    obtain ⟨g1, g2, g3, g4⟩ := h3.resolve_left hc
    refine aw_l2dB (q := 107) dJ15_floorOrCeil_104 sL_J15_89 g1 (by decide) (Nat.le_of_ble_eq_true rfl) rfl ?_
    refine aw_dstore (q := 109) dJ15_floorOrCeil_107 (by decide) rfl ?_
    refine aw_dload (q := 111) dJ15_floorOrCeil_109 rfl rfl ?_
    refine aw_dload_n (i := 0) (q := 112) dJ15_floorOrCeil_111 rfl rfl rfl ?_
    refine aw_dmul (q := 113) dJ15_floorOrCeil_112 (zN64.ok g2) rfl ?_
    refine aw_dconst0 (q := 114) dJ15_floorOrCeil_113 rfl ?_
    refine aw_dcmp (q := 115) dJ15_floorOrCeil_114 rfl ?_
    refine aw_if_le (tgt := 125) (q := 118) dJ15_floorOrCeil_115 (by decide) rfl (fun hZ => absurd hZ ((Int32.not_le.mpr g3))) (fun _ => ?_)
    refine aw_dload (q := 120) dJ15_floorOrCeil_118 rfl rfl ?_
    refine aw_dload (q := 122) dJ15_floorOrCeil_120 rfl rfl ?_
    refine aw_dadd (q := 123) dJ15_floorOrCeil_122 (zN64.ok g4) rfl ?_
    refine aw_dstore (q := 125) dJ15_floorOrCeil_123 (by decide) rfl ?_
    refine aw_dload (q := 127) dJ15_floorOrCeil_125 rfl rfl ?_
    exact aw_dreturn dJ15_floorOrCeil_127 rfl ⟨congrArg (fun z => some (Value.double z)) (show _ = zCeil x from (if_neg hc).symm), rfl⟩
  · refine aw_dload_n (i := 0) (q := 94) dJ15_floorOrCeil_93 rfl rfl rfl ?_
    exact aw_dreturn dJ15_floorOrCeil_94 rfl ⟨congrArg (fun z => some (Value.double z)) (show _ = zCeil x from (if_pos hc).symm), rfl⟩
theorem C_ceil0 {x : UInt64} (h : zCeB x = true) : Meets G 4 MJ15_ceil [.double x] μ (zPure (.double (zCeil x)) μ) 0 0 := by
  refine meets_of (by decide +kernel) (Nat.le_of_ble_eq_true rfl) ?_
  refine aw_dload_n (i := 0) (q := 1) dJ15_ceil_0 rfl rfl rfl ?_
  refine aw_ldc2d (q := 4) dJ15_ceil_1 q702 rfl ?_
  refine aw_dconst1 (q := 5) dJ15_ceil_4 rfl ?_
  refine aw_dconst1 (q := 6) dJ15_ceil_5 rfl ?_
  refine aw_callS (q := 9) dJ15_ceil_6 (C_floorOrCeil h) cs_J15_60 rfl rfl (by decide) (by decide) (by first | exact Nat.le_of_ble_eq_true rfl | simp [zcat_rf, Value.category]) rfl (zpk ?_)
  exact aw_dreturn dJ15_ceil_9 rfl ⟨rfl, rfl⟩
def zSh (x : Int32) (k : Int32) : Int32 := (x.toUInt32 >>> (k.toUInt32 &&& Int32.toUInt32 31)).toInt32
def zNl2 (v n : Int32) : Int32 := if 4 ≤ v then n + Int32.ofInt (-2) - zSh (zSh v 2) 1 else n - zSh v 1
def zNl (v : Int32) : Int32 := if 16 ≤ v then zNl2 (zSh v 4) (31 + Int32.ofInt (-4)) else zNl2 v 31
theorem C_nlz {v : Nat} (h0 : 0 < v) (h : v < 256) : Meets G 1 MJ17_numberOfLeadingZeros [.int (nI v)] μ (zPure (.int (zNl (nI v))) μ) 0 0 := by
  have last : ∀ w n : Int32, zNl2 w n = zNl (nI v) → AW G 1 MJ17_numberOfLeadingZeros (zPure (.int (zNl (nI v))) μ) 0 0 61 [(0, .int w), (1, .int n)] [] μ := by
    intro w n e
    refine aw_iload_n (i := 0) (q := 62) dJ17_numberOfLeadingZeros_61 rfl rfl rfl ?_
    refine aw_iconst (v := 4) (q := 63) dJ17_numberOfLeadingZeros_62 rfl rfl ?_
    refine aw_icmp_lt (tgt := 73) (q := 66) dJ17_numberOfLeadingZeros_63 (by decide) rfl (fun hc => ?_) (fun hc => ?_)
    · refine aw_iload_n (i := 1) (q := 74) dJ17_numberOfLeadingZeros_73 rfl rfl rfl ?_
      refine aw_iload_n (i := 0) (q := 75) dJ17_numberOfLeadingZeros_74 rfl rfl rfl ?_
      refine aw_iconst (v := 1) (q := 76) dJ17_numberOfLeadingZeros_75 rfl rfl ?_
      refine aw_iushr (q := 77) dJ17_numberOfLeadingZeros_76 rfl rfl ?_
      refine aw_isub (q := 78) dJ17_numberOfLeadingZeros_77 rfl ?_
      exact aw_ireturn dJ17_numberOfLeadingZeros_78 rfl (by first | rfl | exact zB_nar _) (by refine ⟨?_, rfl⟩; (rw [← e, zNl2, if_neg (Int32.not_le.mpr hc)]; rfl))
    · refine aw_iinc (q := 69) dJ17_numberOfLeadingZeros_66 rfl rfl (by decide) rfl ?_
      refine aw_iload_n (i := 0) (q := 70) dJ17_numberOfLeadingZeros_69 rfl rfl rfl ?_
      refine aw_iconst (v := 2) (q := 71) dJ17_numberOfLeadingZeros_70 rfl rfl ?_
      refine aw_iushr (q := 72) dJ17_numberOfLeadingZeros_71 rfl rfl ?_
      refine aw_istore_n (i := 0) (q := 73) dJ17_numberOfLeadingZeros_72 rfl (by decide) rfl ?_
      refine aw_iload_n (i := 1) (q := 74) dJ17_numberOfLeadingZeros_73 rfl rfl rfl ?_
      refine aw_iload_n (i := 0) (q := 75) dJ17_numberOfLeadingZeros_74 rfl rfl rfl ?_
      refine aw_iconst (v := 1) (q := 76) dJ17_numberOfLeadingZeros_75 rfl rfl ?_
      refine aw_iushr (q := 77) dJ17_numberOfLeadingZeros_76 rfl rfl ?_
      refine aw_isub (q := 78) dJ17_numberOfLeadingZeros_77 rfl ?_
      exact aw_ireturn dJ17_numberOfLeadingZeros_78 rfl (by first | rfl | exact zB_nar _) (by refine ⟨?_, rfl⟩; (rw [← e, zNl2, if_pos (Int32.not_lt.mp hc)]; rfl))
  refine meets_of (by decide +kernel) (Nat.le_of_ble_eq_true rfl) ?_
  refine aw_iload_n (i := 0) (q := 1) dJ17_numberOfLeadingZeros_0 rfl rfl rfl ?_
  refine aw_if_gt (tgt := 15) (q := 4) dJ17_numberOfLeadingZeros_1 (by decide) rfl (fun _ => ?_) (fun hZ => absurd ((Int32.not_le.mp (nI_nle h0 (by omega)))) hZ)
  refine aw_bipush (v := 31) (q := 17) dJ17_numberOfLeadingZeros_15 rfl rfl ?_
  refine aw_istore_n (i := 1) (q := 18) dJ17_numberOfLeadingZeros_17 rfl (by decide) rfl ?_
  refine aw_iload_n (i := 0) (q := 19) dJ17_numberOfLeadingZeros_18 rfl rfl rfl ?_
  refine aw_ldcw (q := 22) dJ17_numberOfLeadingZeros_19 q730 rfl ?_
  refine aw_icmp_lt (tgt := 33) (q := 25) dJ17_numberOfLeadingZeros_22 (by decide) rfl (fun _ => ?_) (fun hZ => absurd (nI_lt (b := 65536) (by omega) (by decide)) hZ)
  refine aw_iload_n (i := 0) (q := 34) dJ17_numberOfLeadingZeros_33 rfl rfl rfl ?_
  refine aw_sipush (v := 256) (q := 37) dJ17_numberOfLeadingZeros_34 rfl rfl ?_
  refine aw_icmp_lt (tgt := 48) (q := 40) dJ17_numberOfLeadingZeros_37 (by decide) rfl (fun _ => ?_) (fun hZ => absurd (nI_lt (b := 256) (by omega) (by decide)) hZ)
  refine aw_iload_n (i := 0) (q := 49) dJ17_numberOfLeadingZeros_48 rfl rfl rfl ?_
  refine aw_bipush (v := 16) (q := 51) dJ17_numberOfLeadingZeros_49 rfl rfl ?_
  refine aw_icmp_lt (tgt := 61) (q := 54) dJ17_numberOfLeadingZeros_51 (by decide) rfl (fun hc => ?_) (fun hc => ?_)
  · skip
    exact AW.bud (aw_locals (by exact ⟨rfl, rfl, trivial⟩) (last _ _ (by rw [zNl, if_neg (Int32.not_le.mpr hc)]))) (by omega) (by omega)
  · refine aw_iinc (q := 57) dJ17_numberOfLeadingZeros_54 rfl rfl (by decide) rfl ?_
    refine aw_iload_n (i := 0) (q := 58) dJ17_numberOfLeadingZeros_57 rfl rfl rfl ?_
    refine aw_iconst (v := 4) (q := 59) dJ17_numberOfLeadingZeros_58 rfl rfl ?_
    refine aw_iushr (q := 60) dJ17_numberOfLeadingZeros_59 rfl rfl ?_
    refine aw_istore_n (i := 0) (q := 61) dJ17_numberOfLeadingZeros_60 rfl (by decide) rfl ?_
    exact AW.bud (aw_locals (by exact ⟨rfl, rfl, trivial⟩) (last _ _ (by rw [zNl, if_pos (Int32.not_lt.mp hc)]; rfl))) (by omega) (by omega)
def zTsf (c : Int32) : Int32 := zSh (-1) (zNl (c - 1)) + 1
theorem C_tableSizeFor {c : Nat} (h0 : 2 ≤ c) (h : c ≤ 256) (h1 : 0 ≤ zSh (-1) (zNl (nI (c - 1)))) (h2 : zSh (-1) (zNl (nI (c - 1))) < 1073741824) : Meets G 2 MJ4_tableSizeFor [.int (nI c)] μ (zPure (.int (zSh (-1) (zNl (nI (c - 1))) + 1)) μ) 0 0 := by
  refine meets_of (by decide +kernel) (Nat.le_of_ble_eq_true rfl) ?_
  refine aw_iconst (v := (-1)) (q := 1) dJ4_tableSizeFor_0 rfl rfl ?_
  refine aw_iload_n (i := 0) (q := 2) dJ4_tableSizeFor_1 rfl rfl rfl ?_
  refine aw_iconst (v := 1) (q := 3) dJ4_tableSizeFor_2 rfl rfl ?_
  refine aw_isub (q := 4) dJ4_tableSizeFor_3 rfl ?_
  rw [show nI c - 1 = nI (c - 1) by rw [show c = (c - 1) + 1 by omega]; exact nI_pred _]
  refine aw_callS (q := 7) dJ4_tableSizeFor_4 (C_nlz (v := c - 1) (by omega) (by omega)) cs_J4_34 rfl rfl (by decide) (by decide) (by first | exact Nat.le_of_ble_eq_true rfl | simp [zcat_rf, Value.category]) rfl (zpk ?_)
  refine aw_iushr (q := 8) dJ4_tableSizeFor_7 rfl rfl ?_
  refine aw_istore_n (i := 1) (q := 9) dJ4_tableSizeFor_8 rfl (by decide) rfl ?_
  refine aw_iload_n (i := 1) (q := 10) dJ4_tableSizeFor_9 rfl rfl rfl ?_
  refine aw_if_ge (tgt := 17) (q := 13) dJ4_tableSizeFor_10 (by decide) rfl (fun _ => ?_) (fun hZ => absurd (h1) hZ)
  refine aw_iload_n (i := 1) (q := 18) dJ4_tableSizeFor_17 rfl rfl rfl ?_
  refine aw_ldc (q := 20) dJ4_tableSizeFor_18 q723 rfl ?_
  refine aw_icmp_lt (tgt := 28) (q := 23) dJ4_tableSizeFor_20 (by decide) rfl (fun _ => ?_) (fun hZ => absurd (h2) hZ)
  refine aw_iload_n (i := 1) (q := 29) dJ4_tableSizeFor_28 rfl rfl rfl ?_
  refine aw_iconst (v := 1) (q := 30) dJ4_tableSizeFor_29 rfl rfl ?_
  refine aw_iadd (q := 31) dJ4_tableSizeFor_30 rfl ?_
  exact aw_ireturn dJ4_tableSizeFor_31 rfl (by first | rfl | exact zB_nar _) (⟨rfl, rfl⟩)
/-- the size of a table for s entries -/
def zLg (s : Nat) : Nat := if s ≤ 1 then 1 else if s ≤ 3 then 2 else if s ≤ 6 then 3 else if s ≤ 12 then 4 else if s ≤ 24 then 5 else if s ≤ 48 then 6 else if s ≤ 96 then 7 else 8
def zDv (s : Nat) : UInt64 := FP.ddiv (FP.i2d (nI s)) (FP.f2d 1061158912)
def zCpB (s : Nat) : Bool := zN64 (zDv s) && (zCeB (zDv s) && (decide (Op.cmpValue (FP.dcmp (zCeil (zDv s)) 4742290407621132288) .g < 0) && (decide (FP.d2i (zCeil (zDv s)) = nI ((4 * s + 2) / 3)) && (decide (0 ≤ zSh (-1) (zNl (nI ((4 * s + 2) / 3 - 1)))) && (decide (zSh (-1) (zNl (nI ((4 * s + 2) / 3 - 1))) < 1073741824) && decide (zSh (-1) (zNl (nI ((4 * s + 2) / 3 - 1))) + 1 = nI (2 ^ zLg s)))))))
theorem zCp_all : ∀ s : Fin 121, 1 ≤ s.val → zCpB s.val = true := by decide +kernel
theorem zLg_in {s : Nat} : 1 ≤ zLg s ∧ zLg s ≤ 8 := by
  unfold zLg
  split
  · omega
  · split
    · omega
    · split
      · omega
      · split
        · omega
        · split
          · omega
          · split
            · omega
            · split
              · omega
              · omega
theorem zLg_le {s : Nat} (h : s ≤ 192) : 4 * s ≤ 3 * 2 ^ zLg s := by
  unfold zLg
  split
  · omega
  · split
    · omega
    · split
      · omega
      · split
        · omega
        · split
          · omega
          · split
            · omega
            · split
              · omega
              · omega
theorem zF2d_n : vf_n64 (FP.f2d 1061158912) := zN64.ok (by decide +kernel)
/-- the threshold of a table of 2^k -/
def zThB (k : Nat) : Bool := zN32 (FP.fmul (FP.i2f (nI (2 ^ k))) 1061158912) && (decide (Op.cmpValue (FP.fcmp (FP.fmul (FP.i2f (nI (2 ^ k))) 1061158912) 1317011456) .g < 0) && decide (FP.f2i (FP.fmul (FP.i2f (nI (2 ^ k))) 1061158912) = nI (3 * 2 ^ k / 4)))
theorem zTh_all : ∀ k : Fin 10, 1 ≤ k.val → zThB k.val = true := by decide +kernel
end ZCE
