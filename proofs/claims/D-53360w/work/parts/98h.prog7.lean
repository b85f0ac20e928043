/-! THE PROGRAMME: the lamp by which a show can begin -/
set_option maxRecDepth 100000
section ZPI
variable {G : zG} {μ : zM} {p o : Nat} {P : zP} {A : Nat → Nat → Nat} {c : Nat → Int32}
/-- what lampFor leaves -/
def zLfP (G : zG) (μ : zM) (p o : Nat) (P : zP) (A : Nat → Nat → Nat) (c : Nat → Int32) (least : Int32) : Option Value → zM → Prop := fun v μ' => zPR G μ' p o (tLight P least) A c ∧ tOneF (tLight P least) ∧ zKp (zKo o) μ μ' ∧ ((tHasD P least = false ∧ v = some (.ref (G.2.2.2 1)) ∧ μ' (G.2.2.2 1) = some (zC, .inr (18, [.null]))) ∨ (tHasD P least = true ∧ ∃ a l, l < pcn P 8 ∧ tFit (tLight P least) = nI l ∧ v = some (.ref a) ∧ μ' a = some (zTI, .inr (18, [.ref (A 2 l)]))))
theorem tPutIn_ok {l : Nat} (hO : tOk P) : tOk (tPutIn P l) := by
  unfold tPutIn
  refine tOk.upd ?_ (Or.inl (by decide))
  split
  · exact hO
  · exact hO.upd (Or.inl (by decide))
set_option maxHeartbeats 16000000 in
theorem C_lampFor {k : Nat} (h : zPR G μ p o P A c) (hO : tOk P) (h1 : tOneF P) (hf : tLife P) (hk : k < pcn P 7) (hl0 : 0 < P 1 k 1) : Meets G 7 MX1_lampFor [.ref p, .ref (A 1 k)] μ (zLfP G μ p o P A c (P 1 k 1)) 1 1 := by
  have hp := h.1
  have hki := h.ki hk
  obtain ⟨fse, hse, hsf⟩ := h.2.1
  have l12 : pcn P 8 ≤ 12 := hO.l.2
  -- 50: there is a lamp
  have s50 : ∀ (μ1 : zM) (l : Nat), zPR G μ1 p o (tLight P (P 1 k 1)) A c → tOneF (tLight P (P 1 k 1)) → tOk (tLight P (P 1 k 1)) → zKp (zKo o) μ μ1 → tHasD P (P 1 k 1) = true → l < pcn P 8 → tFit (tLight P (P 1 k 1)) = nI l → ∀ L', AW G 7 MX1_lampFor (zLfP G μ p o P A c (P 1 k 1)) (0 + 1) (0 + 1) 50 ((0, .ref p) :: (1, .ref (A 1 k)) :: L') [] μ1 := by
    intro μ1 l g1 g2 g3 g4 g5 g6 g7 L'
    refine aw_locals (L' := [(0, .ref p), (1, .ref (A 1 k))]) (by exact ⟨rfl, rfl, trivial⟩) ?_
    have hp1 := g1.1
    have hL1 := g1.lla
    obtain ⟨_, chL1⟩ := hL1.cell
    rw [tLight_cn] at hL1
    have hfx := C_fitted g1 g3 g2
    rw [g7] at hfx
    have hla1 := g1.la (i := l) (by rw [tLight_cn]; exact g6)
    first | refine aw_aload_n (i := 0) (q := 51) dX1_lampFor_50 rfl rfl rfl ?_ | refine aw_aloadN_n (i := 0) (q := 51) dX1_lampFor_50 rfl rfl rfl ?_ | refine aw_aloadQ_n (i := 0) (q := 51) dX1_lampFor_50 rfl rfl rfl ?_
    refine aw_getfield (q := 54) dX1_lampFor_51 gf_X1_22_1 (by assumption) rfl rfl ?_
    first | refine aw_aload_n (i := 0) (q := 55) dX1_lampFor_54 rfl rfl rfl ?_ | refine aw_aloadN_n (i := 0) (q := 55) dX1_lampFor_54 rfl rfl rfl ?_ | refine aw_aloadQ_n (i := 0) (q := 55) dX1_lampFor_54 rfl rfl rfl ?_
    refine aw_z ?_
    refine aw_callV (q := 58) dX1_lampFor_55 (hfx) cv_X1_122_1 (by assumption) rfl rfl (by decide) (by decide) (by first | exact Nat.le_of_ble_eq_true rfl | simp [zcat_rf, Value.category]) rfl (zpk ?_)
    refine aw_z ?_
    refine aw_callF (q := 63) dX1_lampFor_58 (C_AL_get hL1 g6 (by omega)) cf_X1_115_14 (by assumption) rfl rfl (by decide) (by decide) (by first | exact Nat.le_of_ble_eq_true rfl | simp [zcat_rf, Value.category]) rfl (zpk ?_)
    refine aw_cast (q := 66) dX1_lampFor_63 q512 hla1 ca_4_X4 rfl ?_
    refine aw_callS (q := 69) dX1_lampFor_66 (C_Opt_of (u := zTI) zTI_nz) cs_X1_148 rfl rfl (by decide) (by decide) (by first | exact Nat.le_of_ble_eq_true rfl | simp [zcat_rf, Value.category]) rfl (fun v66 μ2 hp => ?_)
    obtain ⟨a, rfl, an, hg2⟩ := hp
    exact aw_areturnR dX1_lampFor_69 rfl (by first | exact Or.inl ⟨_, rfl⟩ | exact Or.inr ⟨_, rfl⟩) (⟨zF.pr g1 (hg2 ▸ zKp.new an), g2, g4.tr (hg2 ▸ zKp.new an), Or.inr ⟨g5, a, l, g6, g7, rfl, hg2 ▸ updM_eq _ _ _⟩⟩)
  -- 41: none
  have s41 : ∀ L', tHasD P (P 1 k 1) = false → tLight P (P 1 k 1) = P → AW G 7 MX1_lampFor (zLfP G μ p o P A c (P 1 k 1)) (0 + 1) (0 + 1) 41 ((0, .ref p) :: (1, .ref (A 1 k)) :: L') [] μ := by
    intro L' g1 g2
    refine aw_locals (L' := [(0, .ref p), (1, .ref (A 1 k))]) (by exact ⟨rfl, rfl, trivial⟩) ?_
    refine aw_z ?_
    refine aw_callS (q := 44) dX1_lampFor_41 (C_Opt_empty) cs_X1_138 rfl rfl (by decide) (by decide) (by first | exact Nat.le_of_ble_eq_true rfl | simp [zcat_rf, Value.category]) rfl (fun v41 μ1 hp => ?_)
    obtain ⟨rfl, rfl, hem⟩ := hp
    exact aw_areturnR dX1_lampFor_44 rfl (by first | exact Or.inl ⟨_, rfl⟩ | exact Or.inr ⟨_, rfl⟩) (⟨by rw [g2]; exact h, by rw [g2]; exact h1, zKp.rf, Or.inl ⟨g1, rfl, hem⟩⟩)
  -- 15: no light yet
  have s15 : tLitD P (P 1 k 1) = false → AW G 7 MX1_lampFor (zLfP G μ p o P A c (P 1 k 1)) (0 + 1) (0 + 1) 15 [(0, .ref p), (1, .ref (A 1 k))] [] μ := by
    intro hlit
    have hnl : ¬ (tLitD P (P 1 k 1) = true) := by rw [hlit]; decide
    have hbs := C_brightestSpare h hO hf
    rcases zSpN_best (P := P) hl0 (pcn P 8) with ⟨e1, e2⟩ | ⟨j, e1, e2⟩
    · have hno : tHasD P (P 1 k 1) = false := by unfold tHasD tBest; rw [hlit, e2]; simp
      have hlg : tLight P (P 1 k 1) = P := by
        unfold tLight tBest
        rw [if_neg hnl, e2]
        split <;> rfl
      rw [e1] at hbs
      first | refine aw_aload_n (i := 0) (q := 16) dX1_lampFor_15 rfl rfl rfl ?_ | refine aw_aloadN_n (i := 0) (q := 16) dX1_lampFor_15 rfl rfl rfl ?_ | refine aw_aloadQ_n (i := 0) (q := 16) dX1_lampFor_15 rfl rfl rfl ?_
      refine aw_z ?_
      refine aw_callV (q := 19) dX1_lampFor_16 (hbs) cv_X1_135_1 (by assumption) rfl rfl (by decide) (by decide) (by first | exact Nat.le_of_ble_eq_true rfl | simp [zcat_rf, Value.category]) rfl (zpk ?_)
      refine aw_istore_n (i := 2) (q := 20) dX1_lampFor_19 rfl (by decide) rfl ?_
      first | refine aw_aload_n (i := 0) (q := 21) dX1_lampFor_20 rfl rfl rfl ?_ | refine aw_aloadN_n (i := 0) (q := 21) dX1_lampFor_20 rfl rfl rfl ?_ | refine aw_aloadQ_n (i := 0) (q := 21) dX1_lampFor_20 rfl rfl rfl ?_
      refine aw_getfield (q := 24) dX1_lampFor_21 gf_X1_9_1 (by assumption) rfl rfl ?_
      refine aw_iconst (v := 5) (q := 25) dX1_lampFor_24 rfl rfl ?_
      refine aw_iald (q := 26) (v := P 0 0 5) (5) dX1_lampFor_25 (by assumption) (by first | assumption | (simp only [← nI_add, ← pk_mul]; rfl) | rfl) (by omega) (by omega) (hsf 5 (by decide)) rfl ?_
      refine aw_if_eq (tgt := 41) (q := 29) dX1_lampFor_26 (by decide) rfl (fun c1 => ?_) (fun c1 => ?_)
      · skip
        exact aw_locals (by exact ⟨rfl, rfl, trivial⟩) (s41 [] hno hlg)
      · first | refine aw_aload_n (i := 0) (q := 30) dX1_lampFor_29 rfl rfl rfl ?_ | refine aw_aloadN_n (i := 0) (q := 30) dX1_lampFor_29 rfl rfl rfl ?_ | refine aw_aloadQ_n (i := 0) (q := 30) dX1_lampFor_29 rfl rfl rfl ?_
        refine aw_iload_n (i := 2) (q := 31) dX1_lampFor_30 rfl rfl rfl ?_
        first | refine aw_aload_n (i := 1) (q := 32) dX1_lampFor_31 rfl rfl rfl ?_ | refine aw_aloadN_n (i := 1) (q := 32) dX1_lampFor_31 rfl rfl rfl ?_ | refine aw_aloadQ_n (i := 1) (q := 32) dX1_lampFor_31 rfl rfl rfl ?_
        refine aw_getfield (q := 35) dX1_lampFor_32 gf_X1_128_3 (by assumption) rfl rfl ?_
        refine aw_z ?_
        refine aw_callV (q := 38) dX1_lampFor_35 (C_hasLightN h) cv_X1_131_1 (by assumption) rfl rfl (by decide) (by decide) (by first | exact Nat.le_of_ble_eq_true rfl | simp [zcat_rf, Value.category]) rfl (zpk ?_)
        refine aw_if_ne (tgt := 45) (q := 41) dX1_lampFor_38 (by decide) rfl (fun hZ => absurd (rfl) hZ) (fun _ => ?_)
        exact aw_locals (by exact ⟨rfl, rfl, trivial⟩) (s41 [] hno hlg)
    · obtain ⟨hj, -⟩ := zSpN_lt _ j e1
      rw [e1] at hbs
      by_cases c0 : P 0 0 5 = 0
      · have hno : tHasD P (P 1 k 1) = false := by unfold tHasD; rw [hlit, c0]; simp
        have hlg : tLight P (P 1 k 1) = P := by
          unfold tLight
          rw [if_neg hnl, if_pos c0]
        first | refine aw_aload_n (i := 0) (q := 16) dX1_lampFor_15 rfl rfl rfl ?_ | refine aw_aloadN_n (i := 0) (q := 16) dX1_lampFor_15 rfl rfl rfl ?_ | refine aw_aloadQ_n (i := 0) (q := 16) dX1_lampFor_15 rfl rfl rfl ?_
        refine aw_z ?_
        refine aw_callV (q := 19) dX1_lampFor_16 (hbs) cv_X1_135_1 (by assumption) rfl rfl (by decide) (by decide) (by first | exact Nat.le_of_ble_eq_true rfl | simp [zcat_rf, Value.category]) rfl (zpk ?_)
        refine aw_istore_n (i := 2) (q := 20) dX1_lampFor_19 rfl (by decide) rfl ?_
        first | refine aw_aload_n (i := 0) (q := 21) dX1_lampFor_20 rfl rfl rfl ?_ | refine aw_aloadN_n (i := 0) (q := 21) dX1_lampFor_20 rfl rfl rfl ?_ | refine aw_aloadQ_n (i := 0) (q := 21) dX1_lampFor_20 rfl rfl rfl ?_
        refine aw_getfield (q := 24) dX1_lampFor_21 gf_X1_9_1 (by assumption) rfl rfl ?_
        refine aw_iconst (v := 5) (q := 25) dX1_lampFor_24 rfl rfl ?_
        refine aw_iald (q := 26) (v := P 0 0 5) (5) dX1_lampFor_25 (by assumption) (by first | assumption | (simp only [← nI_add, ← pk_mul]; rfl) | rfl) (by omega) (by omega) (hsf 5 (by decide)) rfl ?_
        refine aw_if_eq (tgt := 41) (q := 29) dX1_lampFor_26 (by decide) rfl (fun _ => ?_) (fun hZ => absurd (c0) hZ)
        exact aw_locals (by exact ⟨rfl, rfl, trivial⟩) (s41 [] hno hlg)
      · rcases e2 with ⟨e2, e3⟩ | ⟨e2, e3⟩
        · have hyes : tHasD P (P 1 k 1) = true := by unfold tHasD tBest; rw [e3]; simp [c0]
          have hlg : tLight P (P 1 k 1) = tPutIn P j := by
            unfold tLight tBest
            rw [if_neg hnl, if_neg c0, e3]
          first | refine aw_aload_n (i := 0) (q := 16) dX1_lampFor_15 rfl rfl rfl ?_ | refine aw_aloadN_n (i := 0) (q := 16) dX1_lampFor_15 rfl rfl rfl ?_ | refine aw_aloadQ_n (i := 0) (q := 16) dX1_lampFor_15 rfl rfl rfl ?_
          refine aw_z ?_
          refine aw_callV (q := 19) dX1_lampFor_16 (hbs) cv_X1_135_1 (by assumption) rfl rfl (by decide) (by decide) (by first | exact Nat.le_of_ble_eq_true rfl | simp [zcat_rf, Value.category]) rfl (zpk ?_)
          refine aw_istore_n (i := 2) (q := 20) dX1_lampFor_19 rfl (by decide) rfl ?_
          first | refine aw_aload_n (i := 0) (q := 21) dX1_lampFor_20 rfl rfl rfl ?_ | refine aw_aloadN_n (i := 0) (q := 21) dX1_lampFor_20 rfl rfl rfl ?_ | refine aw_aloadQ_n (i := 0) (q := 21) dX1_lampFor_20 rfl rfl rfl ?_
          refine aw_getfield (q := 24) dX1_lampFor_21 gf_X1_9_1 (by assumption) rfl rfl ?_
          refine aw_iconst (v := 5) (q := 25) dX1_lampFor_24 rfl rfl ?_
          refine aw_iald (q := 26) (v := P 0 0 5) (5) dX1_lampFor_25 (by assumption) (by first | assumption | (simp only [← nI_add, ← pk_mul]; rfl) | rfl) (by omega) (by omega) (hsf 5 (by decide)) rfl ?_
          refine aw_if_eq (tgt := 41) (q := 29) dX1_lampFor_26 (by decide) rfl (fun hZ => absurd hZ (c0)) (fun _ => ?_)
          rw [show zNo (some j) = nI j from rfl]
          first | refine aw_aload_n (i := 0) (q := 30) dX1_lampFor_29 rfl rfl rfl ?_ | refine aw_aloadN_n (i := 0) (q := 30) dX1_lampFor_29 rfl rfl rfl ?_ | refine aw_aloadQ_n (i := 0) (q := 30) dX1_lampFor_29 rfl rfl rfl ?_
          refine aw_iload_n (i := 2) (q := 31) dX1_lampFor_30 rfl rfl rfl ?_
          first | refine aw_aload_n (i := 1) (q := 32) dX1_lampFor_31 rfl rfl rfl ?_ | refine aw_aloadN_n (i := 1) (q := 32) dX1_lampFor_31 rfl rfl rfl ?_ | refine aw_aloadQ_n (i := 1) (q := 32) dX1_lampFor_31 rfl rfl rfl ?_
          refine aw_getfield (q := 35) dX1_lampFor_32 gf_X1_128_3 (by assumption) rfl rfl ?_
          refine aw_z ?_
          refine aw_callV (q := 38) dX1_lampFor_35 (C_hasLight h hO hj hf) cv_X1_131_1 (by assumption) rfl rfl (by decide) (by decide) (by first | exact Nat.le_of_ble_eq_true rfl | simp [zcat_rf, Value.category]) rfl (zpk ?_)
          refine aw_if_ne (tgt := 45) (q := 41) dX1_lampFor_38 (by decide) rfl (fun _ => ?_) (fun hZ => absurd hZ ((by rw [zB_t e2]; decide)))
          first | refine aw_aload_n (i := 0) (q := 46) dX1_lampFor_45 rfl rfl rfl ?_ | refine aw_aloadN_n (i := 0) (q := 46) dX1_lampFor_45 rfl rfl rfl ?_ | refine aw_aloadQ_n (i := 0) (q := 46) dX1_lampFor_45 rfl rfl rfl ?_
          refine aw_iload_n (i := 2) (q := 47) dX1_lampFor_46 rfl rfl rfl ?_
          refine aw_z ?_
          refine aw_callV (q := 50) dX1_lampFor_47 (C_fit h hO h1 hj) cv_X1_144_1 (by assumption) rfl rfl (by decide) (by decide) (by first | exact Nat.le_of_ble_eq_true rfl | simp [zcat_rf, Value.category]) rfl (fun v47 μ1 hp => ?_)
          obtain ⟨rfl, g1, g2⟩ := hp
          exact aw_locals (by exact ⟨rfl, rfl, trivial⟩) (s50 μ1 j (by rw [hlg]; exact g1) (by rw [hlg]; exact tPutIn_one h1 l12) (by rw [hlg]; exact tPutIn_ok hO) g2 hyes hj (by rw [hlg]; exact tPutIn_fit h1 l12 hj) [])
        · have hno : tHasD P (P 1 k 1) = false := by unfold tHasD tBest; rw [hlit, e3]; simp
          have hlg : tLight P (P 1 k 1) = P := by
            unfold tLight tBest
            rw [if_neg hnl, if_neg c0, e3]
          first | refine aw_aload_n (i := 0) (q := 16) dX1_lampFor_15 rfl rfl rfl ?_ | refine aw_aloadN_n (i := 0) (q := 16) dX1_lampFor_15 rfl rfl rfl ?_ | refine aw_aloadQ_n (i := 0) (q := 16) dX1_lampFor_15 rfl rfl rfl ?_
          refine aw_z ?_
          refine aw_callV (q := 19) dX1_lampFor_16 (hbs) cv_X1_135_1 (by assumption) rfl rfl (by decide) (by decide) (by first | exact Nat.le_of_ble_eq_true rfl | simp [zcat_rf, Value.category]) rfl (zpk ?_)
          refine aw_istore_n (i := 2) (q := 20) dX1_lampFor_19 rfl (by decide) rfl ?_
          first | refine aw_aload_n (i := 0) (q := 21) dX1_lampFor_20 rfl rfl rfl ?_ | refine aw_aloadN_n (i := 0) (q := 21) dX1_lampFor_20 rfl rfl rfl ?_ | refine aw_aloadQ_n (i := 0) (q := 21) dX1_lampFor_20 rfl rfl rfl ?_
          refine aw_getfield (q := 24) dX1_lampFor_21 gf_X1_9_1 (by assumption) rfl rfl ?_
          refine aw_iconst (v := 5) (q := 25) dX1_lampFor_24 rfl rfl ?_
          refine aw_iald (q := 26) (v := P 0 0 5) (5) dX1_lampFor_25 (by assumption) (by first | assumption | (simp only [← nI_add, ← pk_mul]; rfl) | rfl) (by omega) (by omega) (hsf 5 (by decide)) rfl ?_
          refine aw_if_eq (tgt := 41) (q := 29) dX1_lampFor_26 (by decide) rfl (fun hZ => absurd hZ (c0)) (fun _ => ?_)
          rw [show zNo (some j) = nI j from rfl]
          first | refine aw_aload_n (i := 0) (q := 30) dX1_lampFor_29 rfl rfl rfl ?_ | refine aw_aloadN_n (i := 0) (q := 30) dX1_lampFor_29 rfl rfl rfl ?_ | refine aw_aloadQ_n (i := 0) (q := 30) dX1_lampFor_29 rfl rfl rfl ?_
          refine aw_iload_n (i := 2) (q := 31) dX1_lampFor_30 rfl rfl rfl ?_
          first | refine aw_aload_n (i := 1) (q := 32) dX1_lampFor_31 rfl rfl rfl ?_ | refine aw_aloadN_n (i := 1) (q := 32) dX1_lampFor_31 rfl rfl rfl ?_ | refine aw_aloadQ_n (i := 1) (q := 32) dX1_lampFor_31 rfl rfl rfl ?_
          refine aw_getfield (q := 35) dX1_lampFor_32 gf_X1_128_3 (by assumption) rfl rfl ?_
          refine aw_z ?_
          refine aw_callV (q := 38) dX1_lampFor_35 (C_hasLight h hO hj hf) cv_X1_131_1 (by assumption) rfl rfl (by decide) (by decide) (by first | exact Nat.le_of_ble_eq_true rfl | simp [zcat_rf, Value.category]) rfl (zpk ?_)
          refine aw_if_ne (tgt := 45) (q := 41) dX1_lampFor_38 (by decide) rfl (fun hZ => absurd ((zB_f e2)) hZ) (fun _ => ?_)
          exact aw_locals (by exact ⟨rfl, rfl, trivial⟩) (s41 [] hno hlg)
  have hfx := C_fitted h hO h1
  refine meets_of (by decide +kernel) (Nat.le_of_ble_eq_true rfl) ?_
  refine AW.bud (bc' := 0 + 1) (bs' := 0 + 1) ?_ (by omega) (by omega)
  rcases zFit_or (P := P) (pcn P 8) with ⟨e, hj⟩ | ⟨l, hl, e, hc⟩
  · have hlit : tLitD P (P 1 k 1) = false := by unfold tLitD tFit; rw [e]; exact decide_eq_false (fun q => absurd q.1 (by decide))
    rw [tFit, e] at hfx
    first | refine aw_aload_n (i := 0) (q := 1) dX1_lampFor_0 rfl rfl rfl ?_ | refine aw_aloadN_n (i := 0) (q := 1) dX1_lampFor_0 rfl rfl rfl ?_ | refine aw_aloadQ_n (i := 0) (q := 1) dX1_lampFor_0 rfl rfl rfl ?_
    first | refine aw_aload_n (i := 0) (q := 2) dX1_lampFor_1 rfl rfl rfl ?_ | refine aw_aloadN_n (i := 0) (q := 2) dX1_lampFor_1 rfl rfl rfl ?_ | refine aw_aloadQ_n (i := 0) (q := 2) dX1_lampFor_1 rfl rfl rfl ?_
    refine aw_z ?_
    refine aw_callV (q := 5) dX1_lampFor_2 (hfx) cv_X1_122_1 (by assumption) rfl rfl (by decide) (by decide) (by first | exact Nat.le_of_ble_eq_true rfl | simp [zcat_rf, Value.category]) rfl (zpk ?_)
    first | refine aw_aload_n (i := 1) (q := 6) dX1_lampFor_5 rfl rfl rfl ?_ | refine aw_aloadN_n (i := 1) (q := 6) dX1_lampFor_5 rfl rfl rfl ?_ | refine aw_aloadQ_n (i := 1) (q := 6) dX1_lampFor_5 rfl rfl rfl ?_
    refine aw_getfield (q := 9) dX1_lampFor_6 gf_X1_128_3 (by assumption) rfl rfl ?_
    refine aw_z ?_
    refine aw_callV (q := 12) dX1_lampFor_9 (C_hasLightN h) cv_X1_131_1 (by assumption) rfl rfl (by decide) (by decide) (by first | exact Nat.le_of_ble_eq_true rfl | simp [zcat_rf, Value.category]) rfl (zpk ?_)
    refine aw_if_ne (tgt := 50) (q := 15) dX1_lampFor_12 (by decide) rfl (fun hZ => absurd (rfl) hZ) (fun _ => ?_)
    exact s15 hlit
  · have e' : tFit P = nI l := e
    rw [e'] at hfx
    by_cases q : P 1 k 1 ≤ tBr P l
    · have hlit : tLitD P (P 1 k 1) = true := by
        unfold tLitD; rw [e', nI_clamp (by omega)]; exact decide_eq_true ⟨nI_le (a := 0) (b := l) (by omega) (by omega), q⟩
      have hlg : tLight P (P 1 k 1) = P := by unfold tLight; rw [if_pos hlit]
      have hyes : tHasD P (P 1 k 1) = true := by unfold tHasD; rw [hlit]; rfl
      first | refine aw_aload_n (i := 0) (q := 1) dX1_lampFor_0 rfl rfl rfl ?_ | refine aw_aloadN_n (i := 0) (q := 1) dX1_lampFor_0 rfl rfl rfl ?_ | refine aw_aloadQ_n (i := 0) (q := 1) dX1_lampFor_0 rfl rfl rfl ?_
      first | refine aw_aload_n (i := 0) (q := 2) dX1_lampFor_1 rfl rfl rfl ?_ | refine aw_aloadN_n (i := 0) (q := 2) dX1_lampFor_1 rfl rfl rfl ?_ | refine aw_aloadQ_n (i := 0) (q := 2) dX1_lampFor_1 rfl rfl rfl ?_
      refine aw_z ?_
      refine aw_callV (q := 5) dX1_lampFor_2 (hfx) cv_X1_122_1 (by assumption) rfl rfl (by decide) (by decide) (by first | exact Nat.le_of_ble_eq_true rfl | simp [zcat_rf, Value.category]) rfl (zpk ?_)
      first | refine aw_aload_n (i := 1) (q := 6) dX1_lampFor_5 rfl rfl rfl ?_ | refine aw_aloadN_n (i := 1) (q := 6) dX1_lampFor_5 rfl rfl rfl ?_ | refine aw_aloadQ_n (i := 1) (q := 6) dX1_lampFor_5 rfl rfl rfl ?_
      refine aw_getfield (q := 9) dX1_lampFor_6 gf_X1_128_3 (by assumption) rfl rfl ?_
      refine aw_z ?_
      refine aw_callV (q := 12) dX1_lampFor_9 (C_hasLight h hO hl hf) cv_X1_131_1 (by assumption) rfl rfl (by decide) (by decide) (by first | exact Nat.le_of_ble_eq_true rfl | simp [zcat_rf, Value.category]) rfl (zpk ?_)
      refine aw_if_ne (tgt := 50) (q := 15) dX1_lampFor_12 (by decide) rfl (fun _ => ?_) (fun hZ => absurd hZ ((by rw [zB_t q]; decide)))
      exact aw_locals (by exact ⟨rfl, rfl, trivial⟩) (s50 μ l (by rw [hlg]; exact h) (by rw [hlg]; exact h1) (by rw [hlg]; exact hO) zKp.rf hyes hl (by rw [hlg]; exact e') [])
    · have hlit : tLitD P (P 1 k 1) = false := by
        unfold tLitD; rw [e', nI_clamp (by omega)]; exact decide_eq_false (fun z => q z.2)
      first | refine aw_aload_n (i := 0) (q := 1) dX1_lampFor_0 rfl rfl rfl ?_ | refine aw_aloadN_n (i := 0) (q := 1) dX1_lampFor_0 rfl rfl rfl ?_ | refine aw_aloadQ_n (i := 0) (q := 1) dX1_lampFor_0 rfl rfl rfl ?_
      first | refine aw_aload_n (i := 0) (q := 2) dX1_lampFor_1 rfl rfl rfl ?_ | refine aw_aloadN_n (i := 0) (q := 2) dX1_lampFor_1 rfl rfl rfl ?_ | refine aw_aloadQ_n (i := 0) (q := 2) dX1_lampFor_1 rfl rfl rfl ?_
      refine aw_z ?_
      refine aw_callV (q := 5) dX1_lampFor_2 (hfx) cv_X1_122_1 (by assumption) rfl rfl (by decide) (by decide) (by first | exact Nat.le_of_ble_eq_true rfl | simp [zcat_rf, Value.category]) rfl (zpk ?_)
      first | refine aw_aload_n (i := 1) (q := 6) dX1_lampFor_5 rfl rfl rfl ?_ | refine aw_aloadN_n (i := 1) (q := 6) dX1_lampFor_5 rfl rfl rfl ?_ | refine aw_aloadQ_n (i := 1) (q := 6) dX1_lampFor_5 rfl rfl rfl ?_
      refine aw_getfield (q := 9) dX1_lampFor_6 gf_X1_128_3 (by assumption) rfl rfl ?_
      refine aw_z ?_
      refine aw_callV (q := 12) dX1_lampFor_9 (C_hasLight h hO hl hf) cv_X1_131_1 (by assumption) rfl rfl (by decide) (by decide) (by first | exact Nat.le_of_ble_eq_true rfl | simp [zcat_rf, Value.category]) rfl (zpk ?_)
      refine aw_if_ne (tgt := 50) (q := 15) dX1_lampFor_12 (by decide) rfl (fun hZ => absurd ((zB_f q)) hZ) (fun _ => ?_)
      exact s15 hlit
end ZPI
