/-! THE TWIN, part 27: carry -/
set_option maxRecDepth 100000
def tCarry (P : zP) (R : tR) (o : Nat → Int32) : tT := if o 0 = 112 then tPlanC P R (o 1) (o 2) (o 3) else if o 0 = 101 then tEventC P R (o 1) (o 2) (o 3) else tBookC P R (o 1) (o 2) (o 3) (o 4)
section ZTW27
variable {G : zG} {μ : zM} {m : Nat} {lam : Nat → Nat} {K : Nat → Nat → Int32} {P : zP} {R : tR}
theorem C2_carry {i : Nat} {x : Int32} {o : Nat → Int32} (hS : zTS G μ m lam K P R) (hI : tPI P) (hx : x = nI (5 * i)) (hi : i < 40) (hO : ∀ c, c < 5 → (c < 4 ∨ o 0 = 98) → K 10 (5 * i + c) = o c) (ho : o 0 = 112 ∨ o 0 = 101 ∨ o 0 = 98) : Meets G 8 MX2_carry [.ref m, .int x] μ (tPub G μ m lam K (tCarry P R o)) 0 0 := by
  subst hx
  have hm := hS.1.m
  have h10 := hS.1.a10
  refine meets_of (by decide +kernel) (Nat.le_of_ble_eq_true rfl) ?_
  first | refine aw_aload_n (i := 0) (q := 1) dX2_carry_0 rfl rfl rfl ?_ | refine aw_aloadN_n (i := 0) (q := 1) dX2_carry_0 rfl rfl rfl ?_ | refine aw_aloadQ_n (i := 0) (q := 1) dX2_carry_0 rfl rfl rfl ?_
  refine aw_getfield (q := 4) dX2_carry_1 gf_X2_38_2 (by assumption) rfl rfl ?_
  refine aw_iload_n (i := 1) (q := 5) dX2_carry_4 rfl rfl rfl ?_
  refine aw_iald (q := 6) (v := o 0) (5 * i) dX2_carry_5 (by assumption) (by first | assumption | (simp only [← nI_add, ← pk_mul]; rfl) | rfl) (by omega) (by omega) (hO 0 (by omega) (Or.inl (by omega))) rfl ?_
  rcases ho with h | h | h
  · rw [h]
    have e0 : tCarry P R o = tPlanC P R (o 1) (o 2) (o 3) := if_pos h
    rw [e0]
    refine aw_lookup (tgt := 32) dX2_carry_6 (by decide) rfl (by decide) ?_
    first | refine aw_aload_n (i := 0) (q := 33) dX2_carry_32 rfl rfl rfl ?_ | refine aw_aloadN_n (i := 0) (q := 33) dX2_carry_32 rfl rfl rfl ?_ | refine aw_aloadQ_n (i := 0) (q := 33) dX2_carry_32 rfl rfl rfl ?_
    first | refine aw_aload_n (i := 0) (q := 34) dX2_carry_33 rfl rfl rfl ?_ | refine aw_aloadN_n (i := 0) (q := 34) dX2_carry_33 rfl rfl rfl ?_ | refine aw_aloadQ_n (i := 0) (q := 34) dX2_carry_33 rfl rfl rfl ?_
    refine aw_getfield (q := 37) dX2_carry_34 gf_X2_38_2 (by assumption) rfl rfl ?_
    refine aw_iload_n (i := 1) (q := 38) dX2_carry_37 rfl rfl rfl ?_
    refine aw_iconst (v := 1) (q := 39) dX2_carry_38 rfl rfl ?_
    refine aw_iadd (q := 40) dX2_carry_39 rfl ?_
    refine aw_iald (q := 41) (v := o 1) (5 * i + 1) dX2_carry_40 (by assumption) (by first | assumption | (simp only [← nI_add, ← pk_mul]; rfl) | rfl) (by omega) (by omega) (hO 1 (by omega) (Or.inl (by omega))) rfl ?_
    first | refine aw_aload_n (i := 0) (q := 42) dX2_carry_41 rfl rfl rfl ?_ | refine aw_aloadN_n (i := 0) (q := 42) dX2_carry_41 rfl rfl rfl ?_ | refine aw_aloadQ_n (i := 0) (q := 42) dX2_carry_41 rfl rfl rfl ?_
    refine aw_getfield (q := 45) dX2_carry_42 gf_X2_38_2 (by assumption) rfl rfl ?_
    refine aw_iload_n (i := 1) (q := 46) dX2_carry_45 rfl rfl rfl ?_
    refine aw_iconst (v := 2) (q := 47) dX2_carry_46 rfl rfl ?_
    refine aw_iadd (q := 48) dX2_carry_47 rfl ?_
    refine aw_iald (q := 49) (v := o 2) (5 * i + 2) dX2_carry_48 (by assumption) (by first | assumption | (simp only [← nI_add, ← pk_mul]; rfl) | rfl) (by omega) (by omega) (hO 2 (by omega) (Or.inl (by omega))) rfl ?_
    first | refine aw_aload_n (i := 0) (q := 50) dX2_carry_49 rfl rfl rfl ?_ | refine aw_aloadN_n (i := 0) (q := 50) dX2_carry_49 rfl rfl rfl ?_ | refine aw_aloadQ_n (i := 0) (q := 50) dX2_carry_49 rfl rfl rfl ?_
    refine aw_getfield (q := 53) dX2_carry_50 gf_X2_38_2 (by assumption) rfl rfl ?_
    refine aw_iload_n (i := 1) (q := 54) dX2_carry_53 rfl rfl rfl ?_
    refine aw_iconst (v := 3) (q := 55) dX2_carry_54 rfl rfl ?_
    refine aw_iadd (q := 56) dX2_carry_55 rfl ?_
    refine aw_iald (q := 57) (v := o 3) (5 * i + 3) dX2_carry_56 (by assumption) (by first | assumption | (simp only [← nI_add, ← pk_mul]; rfl) | rfl) (by omega) (by omega) (hO 3 (by omega) (Or.inl (by omega))) rfl ?_
    refine aw_callV (q := 60) dX2_carry_57 (C2_plan hS) cv_X2_214_2 (by assumption) rfl rfl (by decide) (by decide) (by first | exact Nat.le_of_ble_eq_true rfl | simp [zcat_rf, Value.category]) rfl (fun v57 μ1 hp => ?_)
    obtain ⟨rfl, hq⟩ := hp
    exact aw_ireturn dX2_carry_60 rfl (by first | rfl | exact zB_nar _) (⟨rfl, hq⟩)
  · rw [h]
    have e0 : tCarry P R o = tEventC P R (o 1) (o 2) (o 3) := by rw [tCarry, if_neg (by rw [h]; decide), if_pos h]
    rw [e0]
    refine aw_lookup (tgt := 61) dX2_carry_6 (by decide) rfl (by decide) ?_
    first | refine aw_aload_n (i := 0) (q := 62) dX2_carry_61 rfl rfl rfl ?_ | refine aw_aloadN_n (i := 0) (q := 62) dX2_carry_61 rfl rfl rfl ?_ | refine aw_aloadQ_n (i := 0) (q := 62) dX2_carry_61 rfl rfl rfl ?_
    first | refine aw_aload_n (i := 0) (q := 63) dX2_carry_62 rfl rfl rfl ?_ | refine aw_aloadN_n (i := 0) (q := 63) dX2_carry_62 rfl rfl rfl ?_ | refine aw_aloadQ_n (i := 0) (q := 63) dX2_carry_62 rfl rfl rfl ?_
    refine aw_getfield (q := 66) dX2_carry_63 gf_X2_38_2 (by assumption) rfl rfl ?_
    refine aw_iload_n (i := 1) (q := 67) dX2_carry_66 rfl rfl rfl ?_
    refine aw_iconst (v := 1) (q := 68) dX2_carry_67 rfl rfl ?_
    refine aw_iadd (q := 69) dX2_carry_68 rfl ?_
    refine aw_iald (q := 70) (v := o 1) (5 * i + 1) dX2_carry_69 (by assumption) (by first | assumption | (simp only [← nI_add, ← pk_mul]; rfl) | rfl) (by omega) (by omega) (hO 1 (by omega) (Or.inl (by omega))) rfl ?_
    first | refine aw_aload_n (i := 0) (q := 71) dX2_carry_70 rfl rfl rfl ?_ | refine aw_aloadN_n (i := 0) (q := 71) dX2_carry_70 rfl rfl rfl ?_ | refine aw_aloadQ_n (i := 0) (q := 71) dX2_carry_70 rfl rfl rfl ?_
    refine aw_getfield (q := 74) dX2_carry_71 gf_X2_38_2 (by assumption) rfl rfl ?_
    refine aw_iload_n (i := 1) (q := 75) dX2_carry_74 rfl rfl rfl ?_
    refine aw_iconst (v := 2) (q := 76) dX2_carry_75 rfl rfl ?_
    refine aw_iadd (q := 77) dX2_carry_76 rfl ?_
    refine aw_iald (q := 78) (v := o 2) (5 * i + 2) dX2_carry_77 (by assumption) (by first | assumption | (simp only [← nI_add, ← pk_mul]; rfl) | rfl) (by omega) (by omega) (hO 2 (by omega) (Or.inl (by omega))) rfl ?_
    first | refine aw_aload_n (i := 0) (q := 79) dX2_carry_78 rfl rfl rfl ?_ | refine aw_aloadN_n (i := 0) (q := 79) dX2_carry_78 rfl rfl rfl ?_ | refine aw_aloadQ_n (i := 0) (q := 79) dX2_carry_78 rfl rfl rfl ?_
    refine aw_getfield (q := 82) dX2_carry_79 gf_X2_38_2 (by assumption) rfl rfl ?_
    refine aw_iload_n (i := 1) (q := 83) dX2_carry_82 rfl rfl rfl ?_
    refine aw_iconst (v := 3) (q := 84) dX2_carry_83 rfl rfl ?_
    refine aw_iadd (q := 85) dX2_carry_84 rfl ?_
    refine aw_iald (q := 86) (v := o 3) (5 * i + 3) dX2_carry_85 (by assumption) (by first | assumption | (simp only [← nI_add, ← pk_mul]; rfl) | rfl) (by omega) (by omega) (hO 3 (by omega) (Or.inl (by omega))) rfl ?_
    refine aw_callV (q := 89) dX2_carry_86 (C2_event hS hI) cv_X2_217_2 (by assumption) rfl rfl (by decide) (by decide) (by first | exact Nat.le_of_ble_eq_true rfl | simp [zcat_rf, Value.category]) rfl (fun v86 μ1 hp => ?_)
    obtain ⟨rfl, hq⟩ := hp
    exact aw_ireturn dX2_carry_89 rfl (by first | rfl | exact zB_nar _) (⟨rfl, hq⟩)
  · have e0 : tCarry P R o = tBookC P R (o 1) (o 2) (o 3) (o 4) := by rw [tCarry, if_neg (by rw [h]; decide), if_neg (by rw [h]; decide)]
    have hO4 := hO 4 (by omega) (Or.inr h)
    rw [h, e0]
    refine aw_lookup (tgt := 90) dX2_carry_6 (by decide) rfl (by decide) ?_
    first | refine aw_aload_n (i := 0) (q := 91) dX2_carry_90 rfl rfl rfl ?_ | refine aw_aloadN_n (i := 0) (q := 91) dX2_carry_90 rfl rfl rfl ?_ | refine aw_aloadQ_n (i := 0) (q := 91) dX2_carry_90 rfl rfl rfl ?_
    first | refine aw_aload_n (i := 0) (q := 92) dX2_carry_91 rfl rfl rfl ?_ | refine aw_aloadN_n (i := 0) (q := 92) dX2_carry_91 rfl rfl rfl ?_ | refine aw_aloadQ_n (i := 0) (q := 92) dX2_carry_91 rfl rfl rfl ?_
    refine aw_getfield (q := 95) dX2_carry_92 gf_X2_38_2 (by assumption) rfl rfl ?_
    refine aw_iload_n (i := 1) (q := 96) dX2_carry_95 rfl rfl rfl ?_
    refine aw_iconst (v := 1) (q := 97) dX2_carry_96 rfl rfl ?_
    refine aw_iadd (q := 98) dX2_carry_97 rfl ?_
    refine aw_iald (q := 99) (v := o 1) (5 * i + 1) dX2_carry_98 (by assumption) (by first | assumption | (simp only [← nI_add, ← pk_mul]; rfl) | rfl) (by omega) (by omega) (hO 1 (by omega) (Or.inl (by omega))) rfl ?_
    first | refine aw_aload_n (i := 0) (q := 100) dX2_carry_99 rfl rfl rfl ?_ | refine aw_aloadN_n (i := 0) (q := 100) dX2_carry_99 rfl rfl rfl ?_ | refine aw_aloadQ_n (i := 0) (q := 100) dX2_carry_99 rfl rfl rfl ?_
    refine aw_getfield (q := 103) dX2_carry_100 gf_X2_38_2 (by assumption) rfl rfl ?_
    refine aw_iload_n (i := 1) (q := 104) dX2_carry_103 rfl rfl rfl ?_
    refine aw_iconst (v := 2) (q := 105) dX2_carry_104 rfl rfl ?_
    refine aw_iadd (q := 106) dX2_carry_105 rfl ?_
    refine aw_iald (q := 107) (v := o 2) (5 * i + 2) dX2_carry_106 (by assumption) (by first | assumption | (simp only [← nI_add, ← pk_mul]; rfl) | rfl) (by omega) (by omega) (hO 2 (by omega) (Or.inl (by omega))) rfl ?_
    first | refine aw_aload_n (i := 0) (q := 108) dX2_carry_107 rfl rfl rfl ?_ | refine aw_aloadN_n (i := 0) (q := 108) dX2_carry_107 rfl rfl rfl ?_ | refine aw_aloadQ_n (i := 0) (q := 108) dX2_carry_107 rfl rfl rfl ?_
    refine aw_getfield (q := 111) dX2_carry_108 gf_X2_38_2 (by assumption) rfl rfl ?_
    refine aw_iload_n (i := 1) (q := 112) dX2_carry_111 rfl rfl rfl ?_
    refine aw_iconst (v := 3) (q := 113) dX2_carry_112 rfl rfl ?_
    refine aw_iadd (q := 114) dX2_carry_113 rfl ?_
    refine aw_iald (q := 115) (v := o 3) (5 * i + 3) dX2_carry_114 (by assumption) (by first | assumption | (simp only [← nI_add, ← pk_mul]; rfl) | rfl) (by omega) (by omega) (hO 3 (by omega) (Or.inl (by omega))) rfl ?_
    first | refine aw_aload_n (i := 0) (q := 116) dX2_carry_115 rfl rfl rfl ?_ | refine aw_aloadN_n (i := 0) (q := 116) dX2_carry_115 rfl rfl rfl ?_ | refine aw_aloadQ_n (i := 0) (q := 116) dX2_carry_115 rfl rfl rfl ?_
    refine aw_getfield (q := 119) dX2_carry_116 gf_X2_38_2 (by assumption) rfl rfl ?_
    refine aw_iload_n (i := 1) (q := 120) dX2_carry_119 rfl rfl rfl ?_
    refine aw_iconst (v := 4) (q := 121) dX2_carry_120 rfl rfl ?_
    refine aw_iadd (q := 122) dX2_carry_121 rfl ?_
    refine aw_iald (q := 123) (v := o 4) (5 * i + 4) dX2_carry_122 (by assumption) (by first | assumption | (simp only [← nI_add, ← pk_mul]; rfl) | rfl) (by omega) (by omega) (hO4) rfl ?_
    refine aw_callV (q := 126) dX2_carry_123 (C2_book hS hI) cv_X2_220_2 (by assumption) rfl rfl (by decide) (by decide) (by first | exact Nat.le_of_ble_eq_true rfl | simp [zcat_rf, Value.category]) rfl (fun v123 μ1 hp => ?_)
    obtain ⟨rfl, hq⟩ := hp
    exact aw_ireturn dX2_carry_126 rfl (by first | rfl | exact zB_nar _) (⟨rfl, hq⟩)
end ZTW27
