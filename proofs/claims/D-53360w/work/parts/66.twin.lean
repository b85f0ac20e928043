/-! THE TWIN, part 25: texts: readOne -/
set_option maxRecDepth 100000
section ZTW25
variable {G : zG} {μ : zM} {m : Nat} {lam : Nat → Nat} {K : Nat → Nat → Int32} {P : zP} {R : tR}
theorem one_e {n : Nat} {kd : Int32} {n1 : Bool × Nat × Int32} (hn : n ≤ 39) (hb : n1.2.1 ≤ 200) (hkd : kd ≠ 98) {μ1 : zM} {K1 : Nat → Nat → Int32} {X : Nat → Int32} (h : tZ1 G μ μ1 m lam K K1 P R n n1.1 n1.2.1 X) (x0 : X (5 * n) = kd) (x1 : X (5 * n + 1) = n1.2.2) (hX2 : ∀ j, j < 5 * n → X j = K 10 j) :
    AW G 4 MX2_readOne (tY G μ m lam K P R n (tOneE (tSg R) kd n1)) 0 0 206 [(0, .ref m), (1, .int (5 * nI n)), (2, .int kd)] [] μ1 := by
  have hm := h.1.1.m
  have l2 : n1.2.1 ≤ tE_a2 (tSg R) n1 ∧ tE_a2 (tSg R) n1 ≤ n1.2.1 + 1 := tAt_le
  have l3 : tE_a2 (tSg R) n1 ≤ tE_a3 (tSg R) n1 ∧ tE_a3 (tSg R) n1 ≤ tE_a2 (tSg R) n1 + 1 := tAt_le
  have l4 : tE_a3 (tSg R) n1 ≤ tE_a4 (tSg R) kd n1 ∧ tE_a4 (tSg R) kd n1 ≤ tE_a3 (tSg R) n1 + 1 := tAt_le
  first | refine aw_aload_n (i := 0) (q := 207) dX2_readOne_206 rfl rfl rfl ?_ | refine aw_aloadN_n (i := 0) (q := 207) dX2_readOne_206 rfl rfl rfl ?_ | refine aw_aloadQ_n (i := 0) (q := 207) dX2_readOne_206 rfl rfl rfl ?_
  refine aw_bipush (v := 47) (q := 209) dX2_readOne_207 rfl rfl ?_
  refine aw_callV (q := 212) dX2_readOne_209 (C2_need h.1 h.2.1 (by omega) h.2.2.1) cv_X2_203_2 (by assumption) rfl rfl (by decide) (by decide) (by first | exact Nat.le_of_ble_eq_true rfl | simp [zcat_rf, Value.category]) rfl (fun v209 μ2 hp => ?_)
  obtain ⟨rfl, ⟨K2, hS2, ha2, hw2, h42, hK2⟩, hk2⟩ := hp
  have h2 : tZ1 G μ μ2 m lam K K2 P R n (tE_w2 (tSg R) n1) (tE_a2 (tSg R) n1) X := h.read hS2 ha2 hw2 h42 hK2 hk2
  have hm := hS2.1.m
  first | refine aw_aload_n (i := 0) (q := 213) dX2_readOne_212 rfl rfl rfl ?_ | refine aw_aloadN_n (i := 0) (q := 213) dX2_readOne_212 rfl rfl rfl ?_ | refine aw_aloadQ_n (i := 0) (q := 213) dX2_readOne_212 rfl rfl rfl ?_
  refine aw_getfield (q := 216) dX2_readOne_213 gf_X2_38_2 (by assumption) rfl rfl ?_
  refine aw_iload_n (i := 1) (q := 217) dX2_readOne_216 rfl rfl rfl ?_
  refine aw_iconst (v := 2) (q := 218) dX2_readOne_217 rfl rfl ?_
  refine aw_iadd (q := 219) dX2_readOne_218 rfl ?_
  first | refine aw_aload_n (i := 0) (q := 220) dX2_readOne_219 rfl rfl rfl ?_ | refine aw_aloadN_n (i := 0) (q := 220) dX2_readOne_219 rfl rfl rfl ?_ | refine aw_aloadQ_n (i := 0) (q := 220) dX2_readOne_219 rfl rfl rfl ?_
  refine aw_iconst (v := 0) (q := 221) dX2_readOne_220 rfl rfl ?_
  refine aw_iconst (v := 5) (q := 222) dX2_readOne_221 rfl rfl ?_
  refine aw_callV (q := 225) dX2_readOne_222 (C2_digit h2.1 h2.2.1 (by omega) h2.2.2.1) cv_X2_194_2 (by assumption) rfl rfl (by decide) (by decide) (by first | exact Nat.le_of_ble_eq_true rfl | simp [zcat_rf, Value.category]) rfl (fun v222 μ3 hp => ?_)
  obtain ⟨rfl, ⟨K3, hS3, ha3, hw3, h43, hK3⟩, hk3⟩ := hp
  have h3 : tZ1 G μ μ3 m lam K K3 P R n (tE_w3 (tSg R) n1) (tE_a3 (tSg R) n1) X := h2.read hS3 ha3 hw3 h43 hK3 hk3
  have h10 := h3.a10
  have hm := hS3.1.m
  refine aw_iast (q := 226) (5 * n + 2) dX2_readOne_225 h10 (by first | assumption | simp) (by first | assumption | (simp only [← nI_add, ← pk_mul]; rfl) | rfl) (by omega) (by omega) rfl (fun μ4 hg_μ4 => ?_)
  have h10 : μ4 _ = some _ := hg_μ4 ▸ updM_eq _ _ _
  have h4 := h3.sto hg_μ4
  have hm := h4.1.1.m
  have after : ∀ s : Int32, s = (if kd = 112 then 107 else 120) → AW G 4 MX2_readOne (tY G μ m lam K P R n (tOneE (tSg R) kd n1)) 0 0 240 [(0, .ref m), (1, .int (5 * nI n)), (2, .int kd)] [.int s, .ref m] μ4 := by
    intro s hs
    subst hs
    refine aw_callV (q := 243) dX2_readOne_240 (C2_need h4.1 h4.2.1 (by omega) h4.2.2.1) cv_X2_203_2 (by assumption) rfl rfl (by decide) (by decide) (by first | exact Nat.le_of_ble_eq_true rfl | simp [zcat_rf, Value.category]) rfl (fun v240 μ5 hp => ?_)
    obtain ⟨rfl, ⟨K5, hS5, ha5, hw5, h45, hK5⟩, hk5⟩ := hp
    have h5 : tZ1 G μ μ5 m lam K K5 P R n (tE_w4 (tSg R) kd n1) (tE_a4 (tSg R) kd n1) _ := h4.read hS5 ha5 hw5 h45 hK5 hk5
    have hm := hS5.1.m
    have last : ∀ (μ6 : zM) (K6 : Nat → Nat → Int32), tZ1 G μ μ6 m lam K K6 P R n (tOneE (tSg R) kd n1).1 (tOneE (tSg R) kd n1).2.1 (upd X (5 * n + 2) (tDV (tSg R) (tE_w2 (tSg R) n1) (tE_a2 (tSg R) n1) 0 5)) → AW G 4 MX2_readOne (tY G μ m lam K P R n (tOneE (tSg R) kd n1)) 0 0 273 [(0, .ref m)] [.int (tDV (tSg R) (tE_w4 (tSg R) kd n1) (tE_a4 (tSg R) kd n1) (tE_lo kd) (tE_hi kd)), .int (5 * nI n + 3), .ref (lam 10)] μ6 := by
      intro μ6 K6 h6
      have h10 := h6.a10
      refine aw_iast (q := 274) (5 * n + 3) dX2_readOne_273 h10 (by first | assumption | simp) (by first | assumption | (simp only [← nI_add, ← pk_mul]; rfl) | rfl) (by omega) (by omega) rfl (fun μ7 hg_μ7 => ?_)
      have h10 : μ7 _ = some _ := hg_μ7 ▸ updM_eq _ _ _
      have h7 := h6.sto hg_μ7
      refine one_end h7 (fun c c1 c2 => ?_) (fun j hj => ?_) _ rfl
      · have hc : c = 0 ∨ c = 1 ∨ c = 2 ∨ c = 3 := by
          rcases c2 with c2 | c2
          · omega
          · exact absurd c2 hkd
        rcases hc with rfl | rfl | rfl | rfl
        · rw [pk_un (by omega), pk_un (by omega)]; exact x0
        · rw [pk_un (by omega), pk_un (by omega)]; exact x1
        · rw [pk_un (by omega), pk_us]; rfl
        · rw [pk_us]; rfl
      · rw [pk_un (by omega), pk_un (by omega)]; exact hX2 j hj
    first | refine aw_aload_n (i := 0) (q := 244) dX2_readOne_243 rfl rfl rfl ?_ | refine aw_aloadN_n (i := 0) (q := 244) dX2_readOne_243 rfl rfl rfl ?_ | refine aw_aloadQ_n (i := 0) (q := 244) dX2_readOne_243 rfl rfl rfl ?_
    refine aw_getfield (q := 247) dX2_readOne_244 gf_X2_38_2 (by assumption) rfl rfl ?_
    refine aw_iload_n (i := 1) (q := 248) dX2_readOne_247 rfl rfl rfl ?_
    refine aw_iconst (v := 3) (q := 249) dX2_readOne_248 rfl rfl ?_
    refine aw_iadd (q := 250) dX2_readOne_249 rfl ?_
    refine aw_iload_n (i := 2) (q := 251) dX2_readOne_250 rfl rfl rfl ?_
    refine aw_bipush (v := 112) (q := 253) dX2_readOne_251 rfl rfl ?_
    refine aw_icmp_ne (tgt := 266) (q := 256) dX2_readOne_253 (by decide) rfl (fun hc => ?_) (fun hc => ?_)
    · skip
      have elo : tE_lo kd = 1 := if_neg hc
      have ehi : tE_hi kd = 6 := if_neg hc
      first | refine aw_aload_n (i := 0) (q := 267) dX2_readOne_266 rfl rfl rfl ?_ | refine aw_aloadN_n (i := 0) (q := 267) dX2_readOne_266 rfl rfl rfl ?_ | refine aw_aloadQ_n (i := 0) (q := 267) dX2_readOne_266 rfl rfl rfl ?_
      refine aw_iconst (v := 1) (q := 268) dX2_readOne_267 rfl rfl ?_
      refine aw_bipush (v := 6) (q := 270) dX2_readOne_268 rfl rfl ?_
      refine aw_callV (q := 273) dX2_readOne_270 (C2_digit h5.1 h5.2.1 (by omega) h5.2.2.1) cv_X2_194_2 (by assumption) rfl rfl (by decide) (by decide) (by first | exact Nat.le_of_ble_eq_true rfl | simp [zcat_rf, Value.category]) rfl (fun v270 μ6 hp => ?_)
      obtain ⟨rfl, ⟨K6, hS6, ha6, hw6, h46, hK6⟩, hk6⟩ := hp
      have h6 : tZ1 G μ μ6 m lam K K6 P R n (tOneE (tSg R) kd n1).1 (tOneE (tSg R) kd n1).2.1 (upd X (5 * n + 2) (tDV (tSg R) (tE_w2 (tSg R) n1) (tE_a2 (tSg R) n1) 0 5)) := by
        refine h5.read hS6 ?_ ?_ h46 hK6 hk6
        · show _ = nI (tAt (tDW (tSg R) (tE_w4 (tSg R) kd n1) (tE_a4 (tSg R) kd n1) (tE_lo kd) (tE_hi kd)) (tE_a4 (tSg R) kd n1)); rw [elo, ehi]; exact ha6
        · show _ = bI (tDW (tSg R) (tE_w4 (tSg R) kd n1) (tE_a4 (tSg R) kd n1) (tE_lo kd) (tE_hi kd)); rw [elo, ehi]; exact hw6
      have l := last μ6 K6 h6
      rw [elo, ehi] at l
      exact aw_locals (by exact ⟨rfl, trivial⟩) (l)
    · skip
      have elo : tE_lo kd = 0 := if_pos hc
      have ehi : tE_hi kd = 9 := if_pos hc
      first | refine aw_aload_n (i := 0) (q := 257) dX2_readOne_256 rfl rfl rfl ?_ | refine aw_aloadN_n (i := 0) (q := 257) dX2_readOne_256 rfl rfl rfl ?_ | refine aw_aloadQ_n (i := 0) (q := 257) dX2_readOne_256 rfl rfl rfl ?_
      refine aw_iconst (v := 0) (q := 258) dX2_readOne_257 rfl rfl ?_
      refine aw_bipush (v := 9) (q := 260) dX2_readOne_258 rfl rfl ?_
      refine aw_callV (q := 263) dX2_readOne_260 (C2_digit h5.1 h5.2.1 (by omega) h5.2.2.1) cv_X2_194_2 (by assumption) rfl rfl (by decide) (by decide) (by first | exact Nat.le_of_ble_eq_true rfl | simp [zcat_rf, Value.category]) rfl (fun v260 μ6 hp => ?_)
      obtain ⟨rfl, ⟨K6, hS6, ha6, hw6, h46, hK6⟩, hk6⟩ := hp
      have h6 : tZ1 G μ μ6 m lam K K6 P R n (tOneE (tSg R) kd n1).1 (tOneE (tSg R) kd n1).2.1 (upd X (5 * n + 2) (tDV (tSg R) (tE_w2 (tSg R) n1) (tE_a2 (tSg R) n1) 0 5)) := by
        refine h5.read hS6 ?_ ?_ h46 hK6 hk6
        · show _ = nI (tAt (tDW (tSg R) (tE_w4 (tSg R) kd n1) (tE_a4 (tSg R) kd n1) (tE_lo kd) (tE_hi kd)) (tE_a4 (tSg R) kd n1)); rw [elo, ehi]; exact ha6
        · show _ = bI (tDW (tSg R) (tE_w4 (tSg R) kd n1) (tE_a4 (tSg R) kd n1) (tE_lo kd) (tE_hi kd)); rw [elo, ehi]; exact hw6
      have l := last μ6 K6 h6
      rw [elo, ehi] at l
      refine aw_goto (tgt := 273) dX2_readOne_263 (by decide) ?_
      exact aw_locals (by exact ⟨rfl, trivial⟩) (l)
  first | refine aw_aload_n (i := 0) (q := 227) dX2_readOne_226 rfl rfl rfl ?_ | refine aw_aloadN_n (i := 0) (q := 227) dX2_readOne_226 rfl rfl rfl ?_ | refine aw_aloadQ_n (i := 0) (q := 227) dX2_readOne_226 rfl rfl rfl ?_
  refine aw_iload_n (i := 2) (q := 228) dX2_readOne_227 rfl rfl rfl ?_
  refine aw_bipush (v := 112) (q := 230) dX2_readOne_228 rfl rfl ?_
  refine aw_icmp_ne (tgt := 238) (q := 233) dX2_readOne_230 (by decide) rfl (fun hc => ?_) (fun hc => ?_)
  · refine aw_bipush (v := 120) (q := 240) dX2_readOne_238 rfl rfl ?_
    exact aw_locals (by exact ⟨rfl, rfl, rfl, trivial⟩) (after 120 (by rw [if_neg hc]))
  · refine aw_bipush (v := 107) (q := 235) dX2_readOne_233 rfl rfl ?_
    refine aw_goto (tgt := 240) dX2_readOne_235 (by decide) ?_
    exact aw_locals (by exact ⟨rfl, rfl, rfl, trivial⟩) (after 107 (by rw [if_pos hc]))
theorem one_b {n : Nat} {n1 : Bool × Nat × Int32} (hn : n ≤ 39) (hb : n1.2.1 ≤ 200) {μ1 : zM} {K1 : Nat → Nat → Int32} {X : Nat → Int32} (h : tZ1 G μ μ1 m lam K K1 P R n n1.1 n1.2.1 X) (x0 : X (5 * n) = 98) (x1 : X (5 * n + 1) = n1.2.2) (hX2 : ∀ j, j < 5 * n → X j = K 10 j) :
    AW G 4 MX2_readOne (tY G μ m lam K P R n (tOneB (tSg R) n1)) 0 0 89 [(0, .ref m), (1, .int (5 * nI n))] [] μ1 := by
  have hm := h.1.1.m
  have l2 : n1.2.1 ≤ tAt (tB_w2 (tSg R) n1) n1.2.1 ∧ tAt (tB_w2 (tSg R) n1) n1.2.1 ≤ n1.2.1 + 1 := tAt_le
  have l3 : tAt (tB_w2 (tSg R) n1) n1.2.1 ≤ (tB_n2 (tSg R) n1).2.1 ∧ (tB_n2 (tSg R) n1).2.1 ≤ tAt (tB_w2 (tSg R) n1) n1.2.1 + 4 := tNbr_le
  first | refine aw_aload_n (i := 0) (q := 90) dX2_readOne_89 rfl rfl rfl ?_ | refine aw_aloadN_n (i := 0) (q := 90) dX2_readOne_89 rfl rfl rfl ?_ | refine aw_aloadQ_n (i := 0) (q := 90) dX2_readOne_89 rfl rfl rfl ?_
  refine aw_bipush (v := 58) (q := 92) dX2_readOne_90 rfl rfl ?_
  refine aw_callV (q := 95) dX2_readOne_92 (C2_need h.1 h.2.1 (by omega) h.2.2.1) cv_X2_203_2 (by assumption) rfl rfl (by decide) (by decide) (by first | exact Nat.le_of_ble_eq_true rfl | simp [zcat_rf, Value.category]) rfl (fun v92 μ2 hp => ?_)
  obtain ⟨rfl, ⟨K2, hS2, ha2, hw2, h42, hK2⟩, hk2⟩ := hp
  have h2 : tZ1 G μ μ2 m lam K K2 P R n (tB_w2 (tSg R) n1) (tAt (tB_w2 (tSg R) n1) n1.2.1) X := h.read hS2 ha2 hw2 h42 hK2 hk2
  have hm := hS2.1.m
  first | refine aw_aload_n (i := 0) (q := 96) dX2_readOne_95 rfl rfl rfl ?_ | refine aw_aloadN_n (i := 0) (q := 96) dX2_readOne_95 rfl rfl rfl ?_ | refine aw_aloadQ_n (i := 0) (q := 96) dX2_readOne_95 rfl rfl rfl ?_
  refine aw_getfield (q := 99) dX2_readOne_96 gf_X2_38_2 (by assumption) rfl rfl ?_
  refine aw_iload_n (i := 1) (q := 100) dX2_readOne_99 rfl rfl rfl ?_
  refine aw_iconst (v := 2) (q := 101) dX2_readOne_100 rfl rfl ?_
  refine aw_iadd (q := 102) dX2_readOne_101 rfl ?_
  first | refine aw_aload_n (i := 0) (q := 103) dX2_readOne_102 rfl rfl rfl ?_ | refine aw_aloadN_n (i := 0) (q := 103) dX2_readOne_102 rfl rfl rfl ?_ | refine aw_aloadQ_n (i := 0) (q := 103) dX2_readOne_102 rfl rfl rfl ?_
  refine aw_callV (q := 106) dX2_readOne_103 (C2_number h2.1 h2.2.1 (by omega) h2.2.2.1) cv_X2_200_2 (by assumption) rfl rfl (by decide) (by decide) (by first | exact Nat.le_of_ble_eq_true rfl | simp [zcat_rf, Value.category]) rfl (fun v103 μ3 hp => ?_)
  obtain ⟨rfl, ⟨K3, hS3, ha3, hw3, h43, hK3⟩, hk3⟩ := hp
  have h3 : tZ1 G μ μ3 m lam K K3 P R n (tB_n2 (tSg R) n1).1 (tB_n2 (tSg R) n1).2.1 X := h2.read hS3 ha3 hw3 h43 hK3 hk3
  have e2 : (tNbr (tSg R) (tB_w2 (tSg R) n1) (tAt (tB_w2 (tSg R) n1) n1.2.1)).2.2 = (tB_n2 (tSg R) n1).2.2 := rfl
  rw [e2]
  have eR : tOneB (tSg R) n1 = (tB_w4 (tSg R) (tB_n2 (tSg R) n1), if tB_b (tSg R) (tB_n2 (tSg R) n1) then tB_a4 (tSg R) (tB_n2 (tSg R) n1) + 1 else tB_a4 (tSg R) (tB_n2 (tSg R) n1), tFive 98 n1.2.2 (tB_n2 (tSg R) n1).2.2 (tB_o3 (tSg R) (tB_n2 (tSg R) n1)) (bI (tB_b (tSg R) (tB_n2 (tSg R) n1)))) := rfl
  rw [eR]
  generalize tB_n2 (tSg R) n1 = n2 at h3 l3 ⊢
  have h10 := h3.a10
  have hm := hS3.1.m
  refine aw_iast (q := 107) (5 * n + 2) dX2_readOne_106 h10 (by first | assumption | simp) (by first | assumption | (simp only [← nI_add, ← pk_mul]; rfl) | rfl) (by omega) (by omega) rfl (fun μ4 hg_μ4 => ?_)
  have h10 : μ4 _ = some _ := hg_μ4 ▸ updM_eq _ _ _
  have h4 := h3.sto hg_μ4
  have h10 := h4.a10
  have hm := h4.1.1.m
  first | refine aw_aload_n (i := 0) (q := 108) dX2_readOne_107 rfl rfl rfl ?_ | refine aw_aloadN_n (i := 0) (q := 108) dX2_readOne_107 rfl rfl rfl ?_ | refine aw_aloadQ_n (i := 0) (q := 108) dX2_readOne_107 rfl rfl rfl ?_
  refine aw_getfield (q := 111) dX2_readOne_108 gf_X2_38_2 (by assumption) rfl rfl ?_
  refine aw_iload_n (i := 1) (q := 112) dX2_readOne_111 rfl rfl rfl ?_
  refine aw_iconst (v := 3) (q := 113) dX2_readOne_112 rfl rfl ?_
  refine aw_iadd (q := 114) dX2_readOne_113 rfl ?_
  refine aw_bipush (v := (-6)) (q := 116) dX2_readOne_114 rfl rfl ?_
  refine aw_iast (q := 117) (5 * n + 3) dX2_readOne_116 h10 (by first | assumption | simp) (by first | assumption | (simp only [← nI_add, ← pk_mul]; rfl) | rfl) (by omega) (by omega) rfl (fun μ5 hg_μ5 => ?_)
  have h10 : μ5 _ = some _ := hg_μ5 ▸ updM_eq _ _ _
  have h5 := h4.sto hg_μ5
  have hm := h5.1.1.m
  -- the end: is there a '!'
  have fin : ∀ (μ6 : zM) (K6 : Nat → Nat → Int32) (X6 : Nat → Int32), tZ1 G μ μ6 m lam K K6 P R n (tB_w4 (tSg R) n2) (tB_a4 (tSg R) n2) X6 → tB_a4 (tSg R) n2 ≤ 210 → X6 (5 * n) = 98 → X6 (5 * n + 1) = n1.2.2 → X6 (5 * n + 2) = n2.2.2 → X6 (5 * n + 3) = tB_o3 (tSg R) n2 → (∀ j, j < 5 * n → X6 j = K 10 j) →
      AW G 4 MX2_readOne (tY G μ m lam K P R n (tB_w4 (tSg R) n2, if tB_b (tSg R) n2 then tB_a4 (tSg R) n2 + 1 else tB_a4 (tSg R) n2, tFive 98 n1.2.2 n2.2.2 (tB_o3 (tSg R) n2) (bI (tB_b (tSg R) n2)))) 0 0 157 [(0, .ref m), (1, .int (5 * nI n))] [] μ6 := by
    intro μ6 K6 X6 h6 hb6 y0 y1 y2 y3 yj
    have hm := h6.1.1.m
    have put : ∀ b : Bool, b = tB_b (tSg R) n2 → AW G 4 MX2_readOne (tY G μ m lam K P R n (tB_w4 (tSg R) n2, if tB_b (tSg R) n2 then tB_a4 (tSg R) n2 + 1 else tB_a4 (tSg R) n2, tFive 98 n1.2.2 n2.2.2 (tB_o3 (tSg R) n2) (bI (tB_b (tSg R) n2)))) 0 0 185 [(0, .ref m), (1, .int (5 * nI n))] [.int (bI b), .int (5 * nI n + 4), .ref (lam 10)] μ6 := by
      intro b hb
      rw [← hb]
      have h10 := h6.a10
      refine aw_iast (q := 186) (5 * n + 4) dX2_readOne_185 h10 (by first | assumption | simp) (by first | assumption | (simp only [← nI_add, ← pk_mul]; rfl) | rfl) (by omega) (by omega) rfl (fun μ7 hg_μ7 => ?_)
      have h10 : μ7 _ = some _ := hg_μ7 ▸ updM_eq _ _ _
      have h7 := h6.sto hg_μ7
      have hm := h7.1.1.m
      have h10 := h7.a10
      first | refine aw_aload_n (i := 0) (q := 187) dX2_readOne_186 rfl rfl rfl ?_ | refine aw_aloadN_n (i := 0) (q := 187) dX2_readOne_186 rfl rfl rfl ?_ | refine aw_aloadQ_n (i := 0) (q := 187) dX2_readOne_186 rfl rfl rfl ?_
      refine aw_dup (q := 188) dX2_readOne_187 (by first | rfl | exact zcat_rf _) rfl ?_
      refine aw_getfield (q := 191) dX2_readOne_188 gf_X2_185_2 (by assumption) rfl rfl ?_
      first | refine aw_aload_n (i := 0) (q := 192) dX2_readOne_191 rfl rfl rfl ?_ | refine aw_aloadN_n (i := 0) (q := 192) dX2_readOne_191 rfl rfl rfl ?_ | refine aw_aloadQ_n (i := 0) (q := 192) dX2_readOne_191 rfl rfl rfl ?_
      refine aw_getfield (q := 195) dX2_readOne_192 gf_X2_38_2 (by assumption) rfl rfl ?_
      refine aw_iload_n (i := 1) (q := 196) dX2_readOne_195 rfl rfl rfl ?_
      refine aw_iconst (v := 4) (q := 197) dX2_readOne_196 rfl rfl ?_
      refine aw_iadd (q := 198) dX2_readOne_197 rfl ?_
      rw [h7.2.1]
      refine aw_iald (q := 199) (v := bI b) (5 * n + 4) dX2_readOne_198 (by assumption) (by first | assumption | (simp only [← nI_add, ← pk_mul]; rfl) | rfl) (by omega) (by omega) (pk_us) rfl ?_
      refine aw_iadd (q := 200) dX2_readOne_199 rfl ?_
      refine aw_putfield (q := 203) dX2_readOne_200 gf_X2_185_2 hm (by first | assumption | simp) (by first | rfl | exact znar_rf _ _) (by first | rfl | exact zfit_rf _ _) (Nat.le_of_ble_eq_true rfl) rfl (fun μ8 hg_μ8 => ?_)
      have hm : μ8 _ = some _ := hg_μ8 ▸ updM_eq _ _ _
      simp only [List.set] at hm hg_μ8
      have h8 := h7.at (a' := if b then tB_a4 (tSg R) n2 + 1 else tB_a4 (tSg R) n2) (v := nI (tB_a4 (tSg R) n2) + bI b) (by cases b; (exact nI_add _ 0); (exact nI_1 _)) hg_μ8
      refine aw_goto (tgt := 274) dX2_readOne_203 (by decide) ?_
      refine one_end h8 (fun c c1 c2 => ?_) (fun j hj => ?_) _ rfl
      · have hc : c = 0 ∨ c = 1 ∨ c = 2 ∨ c = 3 ∨ c = 4 := by omega
        rcases hc with rfl | rfl | rfl | rfl | rfl
        · rw [pk_un (by omega)]; exact y0
        · rw [pk_un (by omega)]; exact y1
        · rw [pk_un (by omega)]; exact y2
        · rw [pk_un (by omega)]; exact y3
        · rw [pk_us]; rfl
      · rw [pk_un (by omega)]; exact yj j hj
    first | refine aw_aload_n (i := 0) (q := 158) dX2_readOne_157 rfl rfl rfl ?_ | refine aw_aloadN_n (i := 0) (q := 158) dX2_readOne_157 rfl rfl rfl ?_ | refine aw_aloadQ_n (i := 0) (q := 158) dX2_readOne_157 rfl rfl rfl ?_
    refine aw_getfield (q := 161) dX2_readOne_158 gf_X2_38_2 (by assumption) rfl rfl ?_
    refine aw_iload_n (i := 1) (q := 162) dX2_readOne_161 rfl rfl rfl ?_
    refine aw_iconst (v := 4) (q := 163) dX2_readOne_162 rfl rfl ?_
    refine aw_iadd (q := 164) dX2_readOne_163 rfl ?_
    first | refine aw_aload_n (i := 0) (q := 165) dX2_readOne_164 rfl rfl rfl ?_ | refine aw_aloadN_n (i := 0) (q := 165) dX2_readOne_164 rfl rfl rfl ?_ | refine aw_aloadQ_n (i := 0) (q := 165) dX2_readOne_164 rfl rfl rfl ?_
    refine aw_getfield (q := 168) dX2_readOne_165 gf_X2_188_2 (by assumption) rfl rfl ?_
    rw [h6.2.2.1]
    cases hw4 : tB_w4 (tSg R) n2 with
    | true =>
      rw [hw4] at put
      refine aw_if_ne (tgt := 184) (q := 171) dX2_readOne_168 (by decide) rfl (fun _ => ?_) (fun hc => absurd hc ((by decide)))
      refine aw_iconst (v := 0) (q := 185) dX2_readOne_184 rfl rfl ?_
      exact aw_locals (by exact ⟨rfl, rfl, trivial⟩) (put false (by rw [tB_b, hw4]; rfl))
    | false =>
      rw [hw4] at put
      refine aw_if_ne (tgt := 184) (q := 171) dX2_readOne_168 (by decide) rfl (fun hc => absurd (rfl) hc) (fun _ => ?_)
      first | refine aw_aload_n (i := 0) (q := 172) dX2_readOne_171 rfl rfl rfl ?_ | refine aw_aloadN_n (i := 0) (q := 172) dX2_readOne_171 rfl rfl rfl ?_ | refine aw_aloadQ_n (i := 0) (q := 172) dX2_readOne_171 rfl rfl rfl ?_
      refine aw_callV (q := 175) dX2_readOne_172 (C2_sign h6.1 h6.2.1 (by omega)) cv_X2_191_2 (by assumption) rfl rfl (by decide) (by decide) (by first | exact Nat.le_of_ble_eq_true rfl | simp [zcat_rf, Value.category]) rfl (zpk ?_)
      refine aw_bipush (v := 33) (q := 177) dX2_readOne_175 rfl rfl ?_
      refine aw_icmp_ne (tgt := 184) (q := 180) dX2_readOne_177 (by decide) rfl (fun hc => ?_) (fun hc => ?_)
      · refine aw_iconst (v := 0) (q := 185) dX2_readOne_184 rfl rfl ?_
        exact aw_locals (by exact ⟨rfl, rfl, trivial⟩) (put false (by rw [tB_b, hw4, decide_eq_false hc]; rfl))
      · refine aw_iconst (v := 1) (q := 181) dX2_readOne_180 rfl rfl ?_
        refine aw_goto (tgt := 185) dX2_readOne_181 (by decide) ?_
        exact aw_locals (by exact ⟨rfl, rfl, trivial⟩) (put true (by rw [tB_b, hw4, decide_eq_true hc]; rfl))
  have b0 : ∀ v, (upd (upd X (5 * n + 2) n2.2.2) (5 * n + 3) v) (5 * n) = 98 := fun v => by rw [pk_un (by omega), pk_un (by omega)]; exact x0
  have b1 : ∀ v, (upd (upd X (5 * n + 2) n2.2.2) (5 * n + 3) v) (5 * n + 1) = n1.2.2 := fun v => by rw [pk_un (by omega), pk_un (by omega)]; exact x1
  have b2 : ∀ v, (upd (upd X (5 * n + 2) n2.2.2) (5 * n + 3) v) (5 * n + 2) = n2.2.2 := fun v => by rw [pk_un (by omega), pk_us]
  have bj : ∀ v j, j < 5 * n → (upd (upd X (5 * n + 2) n2.2.2) (5 * n + 3) v) j = K 10 j := fun v j hj => by rw [pk_un (by omega), pk_un (by omega)]; exact hX2 j hj
  have no : tB_s (tSg R) n2 = false → AW G 4 MX2_readOne (tY G μ m lam K P R n (tB_w4 (tSg R) n2, if tB_b (tSg R) n2 then tB_a4 (tSg R) n2 + 1 else tB_a4 (tSg R) n2, tFive 98 n1.2.2 n2.2.2 (tB_o3 (tSg R) n2) (bI (tB_b (tSg R) n2)))) 0 0 157 [(0, .ref m), (1, .int (5 * nI n))] [] μ5 := by
    intro hs
    have ew : tB_w4 (tSg R) n2 = n2.1 := by rw [tB_w4, hs, if_neg (by decide)]
    have ea : tB_a4 (tSg R) n2 = n2.2.1 := by rw [tB_a4, hs, if_neg (by decide)]
    have eo : tB_o3 (tSg R) n2 = -6 := by rw [tB_o3, hs, if_neg (by decide)]
    exact fin μ5 _ _ (by rw [ew, ea]; exact h5) (by omega) (b0 _) (b1 _) (b2 _) (by rw [eo, pk_us]) (bj _)
  first | refine aw_aload_n (i := 0) (q := 118) dX2_readOne_117 rfl rfl rfl ?_ | refine aw_aloadN_n (i := 0) (q := 118) dX2_readOne_117 rfl rfl rfl ?_ | refine aw_aloadQ_n (i := 0) (q := 118) dX2_readOne_117 rfl rfl rfl ?_
  refine aw_getfield (q := 121) dX2_readOne_118 gf_X2_188_2 (by assumption) rfl rfl ?_
  rw [h5.2.2.1]
  cases hw2 : n2.1 with
  | true =>
    refine aw_if_ne (tgt := 157) (q := 124) dX2_readOne_121 (by decide) rfl (fun _ => ?_) (fun hc => absurd hc ((by decide)))
    exact aw_locals (by exact ⟨rfl, rfl, trivial⟩) (no (by rw [tB_s, hw2]; rfl))
  | false =>
    refine aw_if_ne (tgt := 157) (q := 124) dX2_readOne_121 (by decide) rfl (fun hc => absurd (rfl) hc) (fun _ => ?_)
    first | refine aw_aload_n (i := 0) (q := 125) dX2_readOne_124 rfl rfl rfl ?_ | refine aw_aloadN_n (i := 0) (q := 125) dX2_readOne_124 rfl rfl rfl ?_ | refine aw_aloadQ_n (i := 0) (q := 125) dX2_readOne_124 rfl rfl rfl ?_
    refine aw_callV (q := 128) dX2_readOne_125 (C2_sign h5.1 h5.2.1 (by omega)) cv_X2_191_2 (by assumption) rfl rfl (by decide) (by decide) (by first | exact Nat.le_of_ble_eq_true rfl | simp [zcat_rf, Value.category]) rfl (zpk ?_)
    refine aw_bipush (v := 115) (q := 130) dX2_readOne_128 rfl rfl ?_
    refine aw_icmp_ne (tgt := 157) (q := 133) dX2_readOne_130 (by decide) rfl (fun hc => ?_) (fun hc => ?_)
    · skip
      exact aw_locals (by exact ⟨rfl, rfl, trivial⟩) (no (by rw [tB_s, hw2, decide_eq_false hc]; rfl))
    · skip
      have hs : tB_s (tSg R) n2 = true := by rw [tB_s, hw2, decide_eq_true hc]; rfl
      have ew : tB_w4 (tSg R) n2 = tDW (tSg R) n2.1 (n2.2.1 + 1) 0 5 := by rw [tB_w4, hs, if_pos rfl]
      have ea : tB_a4 (tSg R) n2 = tAt (tB_w4 (tSg R) n2) (n2.2.1 + 1) := by rw [tB_a4, hs, if_pos rfl]
      have eo : tB_o3 (tSg R) n2 = tDV (tSg R) n2.1 (n2.2.1 + 1) 0 5 := by rw [tB_o3, hs, if_pos rfl]
      have la : tB_a4 (tSg R) n2 ≤ n2.2.1 + 2 := by rw [ea]; exact tAt_le.2
      first | refine aw_aload_n (i := 0) (q := 134) dX2_readOne_133 rfl rfl rfl ?_ | refine aw_aloadN_n (i := 0) (q := 134) dX2_readOne_133 rfl rfl rfl ?_ | refine aw_aloadQ_n (i := 0) (q := 134) dX2_readOne_133 rfl rfl rfl ?_
      refine aw_dup (q := 135) dX2_readOne_134 (by first | rfl | exact zcat_rf _) rfl ?_
      refine aw_getfield (q := 138) dX2_readOne_135 gf_X2_185_2 (by assumption) rfl rfl ?_
      refine aw_iconst (v := 1) (q := 139) dX2_readOne_138 rfl rfl ?_
      refine aw_iadd (q := 140) dX2_readOne_139 rfl ?_
      rw [h5.2.1]
      refine aw_putfield (q := 143) dX2_readOne_140 gf_X2_185_2 hm (by first | assumption | simp) (by first | rfl | exact znar_rf _ _) (by first | rfl | exact zfit_rf _ _) (Nat.le_of_ble_eq_true rfl) rfl (fun μ6 hg_μ6 => ?_)
      have hm : μ6 _ = some _ := hg_μ6 ▸ updM_eq _ _ _
      simp only [List.set] at hm hg_μ6
      have h6 := h5.at (a' := n2.2.1 + 1) (nI_1 _) hg_μ6
      have hm := h6.1.1.m
      first | refine aw_aload_n (i := 0) (q := 144) dX2_readOne_143 rfl rfl rfl ?_ | refine aw_aloadN_n (i := 0) (q := 144) dX2_readOne_143 rfl rfl rfl ?_ | refine aw_aloadQ_n (i := 0) (q := 144) dX2_readOne_143 rfl rfl rfl ?_
      refine aw_getfield (q := 147) dX2_readOne_144 gf_X2_38_2 (by assumption) rfl rfl ?_
      refine aw_iload_n (i := 1) (q := 148) dX2_readOne_147 rfl rfl rfl ?_
      refine aw_iconst (v := 3) (q := 149) dX2_readOne_148 rfl rfl ?_
      refine aw_iadd (q := 150) dX2_readOne_149 rfl ?_
      first | refine aw_aload_n (i := 0) (q := 151) dX2_readOne_150 rfl rfl rfl ?_ | refine aw_aloadN_n (i := 0) (q := 151) dX2_readOne_150 rfl rfl rfl ?_ | refine aw_aloadQ_n (i := 0) (q := 151) dX2_readOne_150 rfl rfl rfl ?_
      refine aw_iconst (v := 0) (q := 152) dX2_readOne_151 rfl rfl ?_
      refine aw_iconst (v := 5) (q := 153) dX2_readOne_152 rfl rfl ?_
      refine aw_callV (q := 156) dX2_readOne_153 (C2_digit h6.1 h6.2.1 (by omega) h6.2.2.1) cv_X2_194_2 (by assumption) rfl rfl (by decide) (by decide) (by first | exact Nat.le_of_ble_eq_true rfl | simp [zcat_rf, Value.category]) rfl (fun v153 μ7 hp => ?_)
      obtain ⟨rfl, ⟨K7, hS7, ha7, hw7, h47, hK7⟩, hk7⟩ := hp
      have h7 := h6.read hS7 ha7 hw7 h47 hK7 hk7
      have h10 := h7.a10
      refine aw_iast (q := 157) (5 * n + 3) dX2_readOne_156 h10 (by first | assumption | simp) (by first | assumption | (simp only [← nI_add, ← pk_mul]; rfl) | rfl) (by omega) (by omega) rfl (fun μ8 hg_μ8 => ?_)
      have h10 : μ8 _ = some _ := hg_μ8 ▸ updM_eq _ _ _
      have h8 := h7.sto hg_μ8
      rw [← ew, ← ea, ← eo] at h8
      exact aw_locals (by exact ⟨rfl, rfl, trivial⟩) (fin μ8 _ _ h8 (by omega) (by rw [pk_un (by omega)]; exact b0 _) (by rw [pk_un (by omega)]; exact b1 _) (by rw [pk_un (by omega)]; exact b2 _) pk_us (fun j hj => by rw [pk_un (by omega)]; exact bj _ j hj))
theorem C2_readOne {n a : Nat} (hS : zTS G μ m lam K P R) (ha : K 0 5 = nI a) (hw : K 0 6 = bI false) (h4 : K 0 4 = nI n) (hn : 2 * n ≤ a) (hb : a ≤ 90) : Meets G 4 MX2_readOne [.ref m] μ (tY G μ m lam K P R n (tOne (tSg R) a)) 0 0 := by
  have hm := hS.1.m
  have h0 : tZ1 G μ μ m lam K K P R n false a (K 10) := ⟨hS, ha, hw, h4, rfl, fun _ _ _ => rfl, zKp.rf⟩
  refine meets_of (by decide +kernel) (Nat.le_of_ble_eq_true rfl) ?_
  refine aw_iconst (v := 5) (q := 1) dX2_readOne_0 rfl rfl ?_
  first | refine aw_aload_n (i := 0) (q := 2) dX2_readOne_1 rfl rfl rfl ?_ | refine aw_aloadN_n (i := 0) (q := 2) dX2_readOne_1 rfl rfl rfl ?_ | refine aw_aloadQ_n (i := 0) (q := 2) dX2_readOne_1 rfl rfl rfl ?_
  refine aw_getfield (q := 5) dX2_readOne_2 gf_X2_197_2 (by assumption) rfl rfl ?_
  refine aw_imul (q := 6) dX2_readOne_5 rfl ?_
  refine aw_istore_n (i := 1) (q := 7) dX2_readOne_6 rfl (by decide) rfl ?_
  first | refine aw_aload_n (i := 0) (q := 8) dX2_readOne_7 rfl rfl rfl ?_ | refine aw_aloadN_n (i := 0) (q := 8) dX2_readOne_7 rfl rfl rfl ?_ | refine aw_aloadQ_n (i := 0) (q := 8) dX2_readOne_7 rfl rfl rfl ?_
  rw [h4]
  refine aw_callV (q := 11) dX2_readOne_8 (C2_sign hS ha (by omega)) cv_X2_191_2 (by assumption) rfl rfl (by decide) (by decide) (by first | exact Nat.le_of_ble_eq_true rfl | simp [zcat_rf, Value.category]) rfl (zpk ?_)
  refine aw_istore_n (i := 2) (q := 12) dX2_readOne_11 rfl (by decide) rfl ?_
  first | refine aw_aload_n (i := 0) (q := 13) dX2_readOne_12 rfl rfl rfl ?_ | refine aw_aloadN_n (i := 0) (q := 13) dX2_readOne_12 rfl rfl rfl ?_ | refine aw_aloadQ_n (i := 0) (q := 13) dX2_readOne_12 rfl rfl rfl ?_
  first | refine aw_aload_n (i := 0) (q := 14) dX2_readOne_13 rfl rfl rfl ?_ | refine aw_aloadN_n (i := 0) (q := 14) dX2_readOne_13 rfl rfl rfl ?_ | refine aw_aloadQ_n (i := 0) (q := 14) dX2_readOne_13 rfl rfl rfl ?_
  refine aw_getfield (q := 17) dX2_readOne_14 gf_X2_188_2 (by assumption) rfl rfl ?_
  rw [hw]
  refine aw_if_ne (tgt := 38) (q := 20) dX2_readOne_17 (by decide) rfl (fun hc => absurd (rfl) hc) (fun _ => ?_)
  have bad : ¬ (tSg R a = 112 ∨ tSg R a = 101 ∨ tSg R a = 98) → AW G 4 MX2_readOne (tY G μ m lam K P R n (tOne (tSg R) a)) 0 0 38 [(0, .ref m), (1, .int (5 * nI n)), (2, .int (tSg R a))] [.ref m] μ := by
    intro h
    have e0 : tOne (tSg R) a = (true, a, fun _ => 0) := if_neg h
    rw [e0]
    refine aw_iconst (v := 1) (q := 39) dX2_readOne_38 rfl rfl ?_
    refine aw_goto (tgt := 43) dX2_readOne_39 (by decide) ?_
    refine aw_putfield (q := 46) dX2_readOne_43 gf_X2_188_2 hm (by first | assumption | simp) (by first | rfl | exact znar_rf _ _) (by first | rfl | exact zfit_rf _ _) (Nat.le_of_ble_eq_true rfl) rfl (fun μ1 hg_μ1 => ?_)
    have hm : μ1 _ = some _ := hg_μ1 ▸ updM_eq _ _ _
    simp only [List.set] at hm hg_μ1
    have h1 := h0.wr (w' := true) rfl hg_μ1
    first | refine aw_aload_n (i := 0) (q := 47) dX2_readOne_46 rfl rfl rfl ?_ | refine aw_aloadN_n (i := 0) (q := 47) dX2_readOne_46 rfl rfl rfl ?_ | refine aw_aloadQ_n (i := 0) (q := 47) dX2_readOne_46 rfl rfl rfl ?_
    refine aw_getfield (q := 50) dX2_readOne_47 gf_X2_188_2 (by assumption) rfl rfl ?_
    refine aw_if_eq (tgt := 54) (q := 53) dX2_readOne_50 (by decide) rfl (fun hc => absurd hc ((by decide))) (fun _ => ?_)
    exact aw_return dX2_readOne_53 rfl (⟨rfl, ⟨_, h1.1, h1.2.1, h1.2.2.1, fun q => by (cases q), fun j hj => rfl, h1.2.2.2.2.2.1⟩, h1.2.2.2.2.2.2⟩)
  have good : (tSg R a = 112 ∨ tSg R a = 101 ∨ tSg R a = 98) → AW G 4 MX2_readOne (tY G μ m lam K P R n (tOne (tSg R) a)) 0 0 42 [(0, .ref m), (1, .int (5 * nI n)), (2, .int (tSg R a))] [.ref m] μ := by
    intro h
    have e0 : tOne (tSg R) a = (if tSg R a = 98 then tOneB (tSg R) (tNbr (tSg R) false (a + 1)) else tOneE (tSg R) (tSg R a) (tNbr (tSg R) false (a + 1))) := if_pos h
    have hlt : a < R.2.2.1.1 := by
      refine Decidable.of_not_not (fun q => ?_)
      have e : tSg R a = 0 := if_neg q
      rw [e] at h
      exact absurd h (by decide)
    have h80 := hS.2.2.2.2.2.2.2.1
    have hn39 : n ≤ 39 := by omega
    have lb : (tNbr (tSg R) false (a + 1)).2.1 ≤ a + 1 + 4 := tNbr_le.2
    refine aw_iconst (v := 0) (q := 43) dX2_readOne_42 rfl rfl ?_
    refine aw_putfield (q := 46) dX2_readOne_43 gf_X2_188_2 hm (by first | assumption | simp) (by first | rfl | exact znar_rf _ _) (by first | rfl | exact zfit_rf _ _) (Nat.le_of_ble_eq_true rfl) rfl (fun μ1 hg_μ1 => ?_)
    have hm : μ1 _ = some _ := hg_μ1 ▸ updM_eq _ _ _
    simp only [List.set] at hm hg_μ1
    have h1 := h0.wr (w' := false) rfl hg_μ1
    first | refine aw_aload_n (i := 0) (q := 47) dX2_readOne_46 rfl rfl rfl ?_ | refine aw_aloadN_n (i := 0) (q := 47) dX2_readOne_46 rfl rfl rfl ?_ | refine aw_aloadQ_n (i := 0) (q := 47) dX2_readOne_46 rfl rfl rfl ?_
    refine aw_getfield (q := 50) dX2_readOne_47 gf_X2_188_2 (by assumption) rfl rfl ?_
    refine aw_if_eq (tgt := 54) (q := 53) dX2_readOne_50 (by decide) rfl (fun _ => ?_) (fun hc => absurd (rfl) hc)
    first | refine aw_aload_n (i := 0) (q := 55) dX2_readOne_54 rfl rfl rfl ?_ | refine aw_aloadN_n (i := 0) (q := 55) dX2_readOne_54 rfl rfl rfl ?_ | refine aw_aloadQ_n (i := 0) (q := 55) dX2_readOne_54 rfl rfl rfl ?_
    refine aw_dup (q := 56) dX2_readOne_55 (by first | rfl | exact zcat_rf _) rfl ?_
    refine aw_getfield (q := 59) dX2_readOne_56 gf_X2_185_2 (by assumption) rfl rfl ?_
    refine aw_iconst (v := 1) (q := 60) dX2_readOne_59 rfl rfl ?_
    refine aw_iadd (q := 61) dX2_readOne_60 rfl ?_
    rw [ha]
    refine aw_putfield (q := 64) dX2_readOne_61 gf_X2_185_2 hm (by first | assumption | simp) (by first | rfl | exact znar_rf _ _) (by first | rfl | exact zfit_rf _ _) (Nat.le_of_ble_eq_true rfl) rfl (fun μ2 hg_μ2 => ?_)
    have hm : μ2 _ = some _ := hg_μ2 ▸ updM_eq _ _ _
    simp only [List.set] at hm hg_μ2
    have h2 := h1.at (a' := a + 1) (nI_1 a) hg_μ2
    have h10 := h2.a10
    first | refine aw_aload_n (i := 0) (q := 65) dX2_readOne_64 rfl rfl rfl ?_ | refine aw_aloadN_n (i := 0) (q := 65) dX2_readOne_64 rfl rfl rfl ?_ | refine aw_aloadQ_n (i := 0) (q := 65) dX2_readOne_64 rfl rfl rfl ?_
    refine aw_getfield (q := 68) dX2_readOne_65 gf_X2_38_2 (by assumption) rfl rfl ?_
    refine aw_iload_n (i := 1) (q := 69) dX2_readOne_68 rfl rfl rfl ?_
    refine aw_iload_n (i := 2) (q := 70) dX2_readOne_69 rfl rfl rfl ?_
    refine aw_iast (q := 71) (5 * n) dX2_readOne_70 h10 (by first | assumption | simp) (by first | assumption | (simp only [← nI_add, ← pk_mul]; rfl) | rfl) (by omega) (by omega) rfl (fun μ3 hg_μ3 => ?_)
    have h10 : μ3 _ = some _ := hg_μ3 ▸ updM_eq _ _ _
    have h3 := h2.sto hg_μ3
    have hm := h3.1.1.m
    first | refine aw_aload_n (i := 0) (q := 72) dX2_readOne_71 rfl rfl rfl ?_ | refine aw_aloadN_n (i := 0) (q := 72) dX2_readOne_71 rfl rfl rfl ?_ | refine aw_aloadQ_n (i := 0) (q := 72) dX2_readOne_71 rfl rfl rfl ?_
    refine aw_getfield (q := 75) dX2_readOne_72 gf_X2_38_2 (by assumption) rfl rfl ?_
    refine aw_iload_n (i := 1) (q := 76) dX2_readOne_75 rfl rfl rfl ?_
    refine aw_iconst (v := 1) (q := 77) dX2_readOne_76 rfl rfl ?_
    refine aw_iadd (q := 78) dX2_readOne_77 rfl ?_
    first | refine aw_aload_n (i := 0) (q := 79) dX2_readOne_78 rfl rfl rfl ?_ | refine aw_aloadN_n (i := 0) (q := 79) dX2_readOne_78 rfl rfl rfl ?_ | refine aw_aloadQ_n (i := 0) (q := 79) dX2_readOne_78 rfl rfl rfl ?_
    refine aw_callV (q := 82) dX2_readOne_79 (C2_number h3.1 h3.2.1 (by omega) h3.2.2.1) cv_X2_200_2 (by assumption) rfl rfl (by decide) (by decide) (by first | exact Nat.le_of_ble_eq_true rfl | simp [zcat_rf, Value.category]) rfl (fun v79 μ4 hp => ?_)
    obtain ⟨rfl, ⟨K4, hS4, ha4, hw4, h44, hK4⟩, hk4⟩ := hp
    have h5 := h3.read hS4 ha4 hw4 h44 hK4 hk4
    have h10 := h5.a10
    refine aw_iast (q := 83) (5 * n + 1) dX2_readOne_82 h10 (by first | assumption | simp) (by first | assumption | (simp only [← nI_add, ← pk_mul]; rfl) | rfl) (by omega) (by omega) rfl (fun μ5 hg_μ5 => ?_)
    have h10 : μ5 _ = some _ := hg_μ5 ▸ updM_eq _ _ _
    have h6 := h5.sto hg_μ5
    rw [e0]
    generalize tNbr (tSg R) false (a + 1) = n1 at h6 lb ⊢
    refine aw_iload_n (i := 2) (q := 84) dX2_readOne_83 rfl rfl rfl ?_
    refine aw_bipush (v := 98) (q := 86) dX2_readOne_84 rfl rfl ?_
    refine aw_icmp_ne (tgt := 206) (q := 89) dX2_readOne_86 (by decide) rfl (fun hc => ?_) (fun hc => ?_)
    · skip
      rw [if_neg hc]
      exact aw_locals (by exact ⟨rfl, rfl, rfl, trivial⟩) (one_e hn39 (by omega) hc h6 (by rw [pk_un (by omega), pk_us]) pk_us (fun j hj => by rw [pk_un (by omega), pk_un (by omega)]))
    · skip
      rw [if_pos hc]
      exact aw_locals (by exact ⟨rfl, rfl, trivial⟩) (one_b hn39 (by omega) h6 (by rw [pk_un (by omega), pk_us]; exact hc) pk_us (fun j hj => by rw [pk_un (by omega), pk_un (by omega)]))
  refine aw_iload_n (i := 2) (q := 21) dX2_readOne_20 rfl rfl rfl ?_
  refine aw_bipush (v := 112) (q := 23) dX2_readOne_21 rfl rfl ?_
  refine aw_icmp_eq (tgt := 42) (q := 26) dX2_readOne_23 (by decide) rfl (fun h1 => ?_) (fun h1 => ?_)
  · skip
    exact aw_locals (by exact ⟨rfl, rfl, rfl, trivial⟩) (good (Or.inl h1))
  · refine aw_iload_n (i := 2) (q := 27) dX2_readOne_26 rfl rfl rfl ?_
    refine aw_bipush (v := 101) (q := 29) dX2_readOne_27 rfl rfl ?_
    refine aw_icmp_eq (tgt := 42) (q := 32) dX2_readOne_29 (by decide) rfl (fun h2 => ?_) (fun h2 => ?_)
    · skip
      exact aw_locals (by exact ⟨rfl, rfl, rfl, trivial⟩) (good (Or.inr (Or.inl h2)))
    · refine aw_iload_n (i := 2) (q := 33) dX2_readOne_32 rfl rfl rfl ?_
      refine aw_bipush (v := 98) (q := 35) dX2_readOne_33 rfl rfl ?_
      refine aw_icmp_eq (tgt := 42) (q := 38) dX2_readOne_35 (by decide) rfl (fun h3 => ?_) (fun h3 => ?_)
      · skip
        exact aw_locals (by exact ⟨rfl, rfl, rfl, trivial⟩) (good (Or.inr (Or.inr h3)))
      · skip
        exact aw_locals (by exact ⟨rfl, rfl, rfl, trivial⟩) (bad (fun h => by (rcases h with h | h | h; (exact h1 h); (exact h2 h); (exact h3 h))))
end ZTW25
