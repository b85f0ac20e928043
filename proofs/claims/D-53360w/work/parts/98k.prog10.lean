/-! THE PROGRAMME: a show is held (holds), the walk -/
set_option maxRecDepth 100000
section ZPL
variable {G : zG} {μ : zM} {p o : Nat} {P : zP} {A : Nat → Nat → Nat} {c : Nat → Int32}
theorem tCloseQ_o {P Q : zP} {b : Nat} {st : Int32} {s i j : Nat} (h : s ≠ 4 ∧ s ≠ 6) : tCloseQ P Q b st s i j = Q s i j := tCloseQ_same s i j (Or.inl h)
set_option maxHeartbeats 16000000 in
/-- the bookings of a show that was held -/
theorem hld_loop {s : Nat} {st : Int32} (hst : st = 1 ∨ st = 2) (hO : tOk P) (hB : tBkOk P) (hs : s < pcn P 9) (h3 : P 3 s 3 = st) {it : Nat} {post : Option Value → zM → Prop} {k0 l0 : Value} (hpost : ∀ μ', zPR G μ' p o (tCloseN P tZ s st (pcn P 10)).1 A c → zKp (zKo o) μ μ' → post none μ') (hitn : μ it = none) : ∀ (rem k : Nat) (lr : Int32) (μ2 : zM), k + rem = pcn P 10 → zPR G μ2 p o (tCloseN P tZ s st k).1 A c → zKp (zKo o) μ μ2 → μ2 it = some (zTI, oItr k lr (c 4) (A 7 4)) → AW G 9 MX1_holds post rem (4 * rem) 139 [(0, .ref p), (1, .int (nI s)), (2, .ref (A 3 s)), (5, .ref it)] [] μ2 := by
  have b80 : pcn P 10 ≤ 80 := hO.b.2
  have ec : ∀ n j, pcn (tCloseN P tZ s st n).1 j = pcn P j := fun n j => (tCloseN_same n).cn j
  have hs4 : st ≠ 4 := by rcases hst with rfl | rfl <;> decide
  intro rem
  induction rem with
  | zero =>
    intro k lr μ2 hk h2 hkp hi
    have ek : k = pcn P 10 := by omega
    have hL2 := h2.lbk
    obtain ⟨_, chL2⟩ := hL2.cell
    rw [ec] at hL2
    first | refine aw_aload (q := 141) dX1_holds_139 rfl rfl ?_ | refine aw_aloadN (q := 141) dX1_holds_139 rfl rfl ?_ | refine aw_aloadQ (q := 141) dX1_holds_139 rfl rfl ?_
    refine aw_z ?_
    refine aw_callF (q := 146) dX1_holds_141 (C_Itr_hasNext hL2 hi) cf_X1_56_11 (by assumption) rfl rfl (by decide) (by decide) (by first | exact Nat.le_of_ble_eq_true rfl | simp [zcat_rf, Value.category]) rfl (zpk ?_)
    refine aw_if_eq (tgt := 250) (q := 149) dX1_holds_146 (by decide) rfl (fun _ => ?_) (fun hZ => absurd ((zB_f (fun q => q (by rw [ek])))) hZ)
    exact aw_return dX1_holds_250 rfl (hpost _ (by rw [ek] at h2; exact h2) hkp)
  | succ rem ih =>
    intro k lr μ2 hk h2 hkp hi
    have hkn : k < pcn P 10 := by omega
    have hL2 := h2.lbk
    obtain ⟨_, chL2⟩ := hL2.cell
    rw [ec] at hL2
    refine AW.bud (bc' := rem + 1) (bs' := 4 * rem + 4) ?_ (by omega) (by omega)
    first | refine aw_aload (q := 141) dX1_holds_139 rfl rfl ?_ | refine aw_aloadN (q := 141) dX1_holds_139 rfl rfl ?_ | refine aw_aloadQ (q := 141) dX1_holds_139 rfl rfl ?_
    refine aw_z ?_
    refine aw_callF (q := 146) dX1_holds_141 (C_Itr_hasNext hL2 hi) cf_X1_56_11 (by assumption) rfl rfl (by decide) (by decide) (by first | exact Nat.le_of_ble_eq_true rfl | simp [zcat_rf, Value.category]) rfl (zpk ?_)
    refine aw_if_eq (tgt := 250) (q := 149) dX1_holds_146 (by decide) rfl (fun hZ => absurd hZ (zHn hkn (by omega))) (fun _ => ?_)
    first | refine aw_aload (q := 151) dX1_holds_149 rfl rfl ?_ | refine aw_aloadN (q := 151) dX1_holds_149 rfl rfl ?_ | refine aw_aloadQ (q := 151) dX1_holds_149 rfl rfl ?_
    refine aw_z ?_
    refine aw_callF (q := 156) dX1_holds_151 (C_Itr_next hL2 hi hkn zTI_nz zTI_ls zTI_la) cf_X1_62_11 (by assumption) rfl rfl (by decide) (by decide) (by first | exact Nat.le_of_ble_eq_true rfl | simp [zcat_rf, Value.category]) rfl (fun v151 μ3 hp => ?_)
    obtain ⟨rfl, hg3⟩ := hp
    have h3' := h2.ti hi hg3
    have hkp3 : zKp (zKo o) μ μ3 := hg3 ▸ hkp.it hitn
    have hi3 : μ3 it = _ := hg3 ▸ updM_eq _ _ _
    have hp3 := h3'.1
    have hO3 := (tCloseN_same (P := P) (D := tZ) (s := s) (st := st) k).ok hO
    have hB3 := (tCloseN_same (P := P) (D := tZ) (s := s) (st := st) k).bkOk hB
    have eb : ∀ j, (tCloseN P tZ s st k).1 4 k j = P 4 k j := fun j => tCloseN_bk k (Nat.le_refl k)
    have e0 : ∀ j, (tCloseN P tZ s st k).1 0 0 j = P 0 0 j := fun j => tCloseN_same k 0 0 j (by omega)
    obtain ⟨fse, hse, hsf⟩ := h3'.2.1
    obtain ⟨r, f, hob, hr, hf⟩ := h3'.bk (i := k) (by rw [ec]; exact hkn)
    obtain ⟨t, fr, f2, hsh, -, -, -⟩ := h3'.sh (i := s) (by rw [ec]; exact hs)
    rw [show (tCloseN P tZ s st k).1 3 s 3 = st from (tCloseN_same k 3 s 3 (by omega)).trans h3] at hsh
    have hob0 := hob
    have hoz : obT 4 k o ≠ zC := obT_nz
    have nit : it ≠ A 4 k := zneq hi3 hob (by simp)
    have nsh : A 3 s ≠ A 4 k := zneq hsh hob (by simp)
    have nse : A 0 0 ≠ A 4 k := zneq hse hob (by simp)
    have npp : p ≠ A 4 k := zneq hp3 hob (by simp)
    have skip : ¬ (P 4 k 0 = nI s ∧ P 4 k 4 = 0) → AW G 9 MX1_holds post (rem + 1) (4 * rem + 4) 247 [(0, .ref p), (1, .int (nI s)), (2, .ref (A 3 s)), (5, .ref it)] [] μ3 := by
      intro hn
      have e : tCloseN P tZ s st (k + 1) = tCloseN P tZ s st k := if_neg hn
      refine aw_goto (tgt := 139) dX1_holds_247 (by decide) ?_
      exact AW.bud (aw_locals (by exact ⟨rfl, rfl, rfl, rfl, trivial⟩) (ih (k + 1) _ μ3 (by omega) (by rw [e]; exact h3') hkp3 hi3)) (by omega) (by omega)
    have take : ∀ (μ4 : zM) (rf : Int32) (w : Nat), P 4 k 0 = nI s ∧ P 4 k 4 = 0 → (if st = 1 then 0 else 3) = w → rf = (if st = 1 then 0 else P 4 k 5 * P 0 0 3 / 100) → μ4 = updM μ3 (A 4 k) (obT 4 k o, oBk ((tCloseN P tZ s st k).1 4 k 0) ((tCloseN P tZ s st k).1 4 k 1) ((tCloseN P tZ s st k).1 4 k 2) ((tCloseN P tZ s st k).1 4 k 3) ((tCloseN P tZ s st k).1 4 k 5) st rf r) → AW G 9 MX1_holds post (rem + 1) (4 * rem + 4) 244 [(0, .ref p), (1, .int (nI s)), (2, .ref (A 3 s)), (5, .ref it), (6, .ref (A 4 k))] [.int (nI w), .ref (A 4 k), .ref p] μ4 := by
      intro μ4 rf w hy hw hrf hg4
      have e : (tCloseN P tZ s st (k + 1)).1 = tCloseQ P (tCloseN P tZ s st k).1 k st := by
        show (if P 4 k 0 = nI s ∧ P 4 k 4 = 0 then _ else _ : zP × (Nat → Int32)).1 = _
        rw [if_pos hy, if_neg hs4]
      have w5 : w < 5 := by rw [← hw]; split <;> decide
      obtain ⟨h4, k4⟩ := h3'.bset hO3 (by rw [ec]; exact hkn) hob0 hr hf hg4
      have ok4 : tOk (updP (updP (tCloseN P tZ s st k).1 4 k 4 st) 4 k 6 rf) := (hO3.upd (Or.inl (by decide))).upd (Or.inl (by decide))
      have ec4 : ∀ j, pcn (updP (updP (tCloseN P tZ s st k).1 4 k 4 st) 4 k 6 rf) j = pcn P j := fun j => by rw [pcn_upd (by omega), pcn_upd (by omega), ec]
      have bk4 : tBkOk (updP (updP (tCloseN P tZ s st k).1 4 k 4 st) 4 k 6 rf) := fun b hb => by
        have hb' : b < pcn (tCloseN P tZ s st k).1 10 := by rw [ec4] at hb; rw [ec]; exact hb
        have z := hB3 b hb'
        unfold tSh at z ⊢
        rw [updP_ne (by omega), updP_ne (by omega), ec4, ← ec k 9]
        exact z
      have hi4 := k4 _ _ _ hi3 (fun q => by have q2 : 20000 ≤ 0 := q.2; omega)
      have hp4 := h4.1
      refine aw_callV (q := 247) dX1_holds_244 (C_counts (b := k) (w := w) h4 ok4 bk4 (by rw [ec4]; exact hkn) w5) cv_X1_165_1 (by assumption) rfl rfl (by decide) (by decide) (by first | exact Nat.le_of_ble_eq_true rfl | simp [zcat_rf, Value.category]) rfl (fun v244 μ5 hp => ?_)
      obtain ⟨rfl, h5, k5⟩ := hp
      have hi5 := k5 _ _ _ hi4 (fun q => by have q2 : 20000 ≤ 0 := q.2; omega)
      have efin : tTally (updP (updP (tCloseN P tZ s st k).1 4 k 4 st) 4 k 6 rf) k w = (tCloseN P tZ s st (k + 1)).1 := by
        rw [e, tTally_upd (by decide) (by decide) (by decide) (by decide), tTally_upd (by decide) (by decide) (by decide) (by decide)]
        unfold tCloseQ
        rw [hw, hrf]
      rw [efin] at h5
      refine aw_goto (tgt := 139) dX1_holds_247 (by decide) ?_
      exact AW.bud (aw_locals (by exact ⟨rfl, rfl, rfl, rfl, trivial⟩) (ih (k + 1) _ μ5 (by omega) h5 ((hkp3.tr k4).tr k5) hi5)) (by omega) (by omega)
    refine aw_cast (q := 159) dX1_holds_156 q583 hob ca_6_X6 rfl ?_
    first | refine aw_astore (q := 161) dX1_holds_159 (by decide) rfl ?_ | refine aw_astoreN (q := 161) dX1_holds_159 (by decide) rfl ?_ | refine aw_astoreQ (q := 161) dX1_holds_159 (by decide) rfl ?_
    try simp (config := {decide := true}) only [zput, zdel_q, zdel_f, zdel_t, zdel_nil, zdel_r, zdel_i, zdel_n]
    first | refine aw_aload (q := 163) dX1_holds_161 rfl rfl ?_ | refine aw_aloadN (q := 163) dX1_holds_161 rfl rfl ?_ | refine aw_aloadQ (q := 163) dX1_holds_161 rfl rfl ?_
    refine aw_getfield (q := 166) dX1_holds_163 gf_X1_155_6 (by assumption) rfl rfl ?_
    refine aw_iload_n (i := 1) (q := 167) dX1_holds_166 rfl rfl rfl ?_
    refine aw_icmp_ne (tgt := 247) (q := 170) dX1_holds_167 (by decide) rfl (fun c1 => ?_) (fun c1 => ?_)
    · skip
      refine aw_locals (by exact ⟨rfl, rfl, rfl, rfl, trivial⟩) (skip (fun q => c1 (by rw [eb]; exact q.1)))
    · first | refine aw_aload (q := 172) dX1_holds_170 rfl rfl ?_ | refine aw_aloadN (q := 172) dX1_holds_170 rfl rfl ?_ | refine aw_aloadQ (q := 172) dX1_holds_170 rfl rfl ?_
      refine aw_getfield (q := 175) dX1_holds_172 gf_X1_176_6 (by assumption) rfl rfl ?_
      refine aw_if_ne (tgt := 247) (q := 178) dX1_holds_175 (by decide) rfl (fun c2 => ?_) (fun c2 => ?_)
      · skip
        refine aw_locals (by exact ⟨rfl, rfl, rfl, rfl, trivial⟩) (skip (fun q => c2 (by rw [eb]; exact q.2)))
      · first | refine aw_aload (q := 180) dX1_holds_178 rfl rfl ?_ | refine aw_aloadN (q := 180) dX1_holds_178 rfl rfl ?_ | refine aw_aloadQ (q := 180) dX1_holds_178 rfl rfl ?_
        first | refine aw_aload_n (i := 2) (q := 181) dX1_holds_180 rfl rfl rfl ?_ | refine aw_aloadN_n (i := 2) (q := 181) dX1_holds_180 rfl rfl rfl ?_ | refine aw_aloadQ_n (i := 2) (q := 181) dX1_holds_180 rfl rfl rfl ?_
        refine aw_getfield (q := 184) dX1_holds_181 gf_X1_263_5 (by assumption) rfl rfl ?_
        refine aw_iconst (v := 1) (q := 185) dX1_holds_184 rfl rfl ?_
        have hy : P 4 k 0 = nI s ∧ P 4 k 4 = 0 := ⟨by rw [← eb]; exact c1, by rw [← eb]; exact c2⟩
        rcases hst with rfl | rfl
        · refine aw_icmp_ne (tgt := 192) (q := 188) dX1_holds_185 (by decide) rfl (fun hZ => absurd (rfl) hZ) (fun _ => ?_)
          refine aw_iconst (v := 1) (q := 189) dX1_holds_188 rfl rfl ?_
          refine aw_goto (tgt := 193) dX1_holds_189 (by decide) ?_
          refine aw_putfield (q := 196) dX1_holds_193 gf_X1_176_6 hob (by first | assumption | simp) (by first | rfl | exact znar_rf _ _ | exact zB_nar _) (by first | rfl | exact zfit_rf _ _ | exact zB_fit _) (Nat.le_of_ble_eq_true rfl) rfl (fun μ4 hg_μ4 => ?_)
          have hsh : μ4 _ = some _ := hg_μ4 ▸ (updM_ne nsh).trans hsh
          have hse : μ4 _ = some _ := hg_μ4 ▸ (updM_ne nse).trans hse
          have hp3 : μ4 _ = some _ := hg_μ4 ▸ (updM_ne npp).trans hp3
          have hob : μ4 _ = some _ := hg_μ4 ▸ updM_eq _ _ _
          simp only [List.set] at hob hg_μ4
          first | refine aw_aload (q := 198) dX1_holds_196 rfl rfl ?_ | refine aw_aloadN (q := 198) dX1_holds_196 rfl rfl ?_ | refine aw_aloadQ (q := 198) dX1_holds_196 rfl rfl ?_
          first | refine aw_aload_n (i := 2) (q := 199) dX1_holds_198 rfl rfl rfl ?_ | refine aw_aloadN_n (i := 2) (q := 199) dX1_holds_198 rfl rfl rfl ?_ | refine aw_aloadQ_n (i := 2) (q := 199) dX1_holds_198 rfl rfl rfl ?_
          refine aw_getfield (q := 202) dX1_holds_199 gf_X1_263_5 (by assumption) rfl rfl ?_
          refine aw_iconst (v := 1) (q := 203) dX1_holds_202 rfl rfl ?_
          refine aw_icmp_ne (tgt := 210) (q := 206) dX1_holds_203 (by decide) rfl (fun hZ => absurd (rfl) hZ) (fun _ => ?_)
          refine aw_iconst (v := 0) (q := 207) dX1_holds_206 rfl rfl ?_
          refine aw_goto (tgt := 225) dX1_holds_207 (by decide) ?_
          refine aw_putfield (q := 228) dX1_holds_225 gf_X1_290_6 hob (by first | assumption | simp) (by first | rfl | exact znar_rf _ _ | exact zB_nar _) (by first | rfl | exact zfit_rf _ _ | exact zB_fit _) (Nat.le_of_ble_eq_true rfl) rfl (fun μ5 hg_μ5 => ?_)
          have hsh : μ5 _ = some _ := hg_μ5 ▸ (updM_ne nsh).trans hsh
          have hse : μ5 _ = some _ := hg_μ5 ▸ (updM_ne nse).trans hse
          have hp3 : μ5 _ = some _ := hg_μ5 ▸ (updM_ne npp).trans hp3
          have hob : μ5 _ = some _ := hg_μ5 ▸ updM_eq _ _ _
          simp only [List.set] at hob hg_μ5
          first | refine aw_aload_n (i := 0) (q := 229) dX1_holds_228 rfl rfl rfl ?_ | refine aw_aloadN_n (i := 0) (q := 229) dX1_holds_228 rfl rfl rfl ?_ | refine aw_aloadQ_n (i := 0) (q := 229) dX1_holds_228 rfl rfl rfl ?_
          first | refine aw_aload (q := 231) dX1_holds_229 rfl rfl ?_ | refine aw_aloadN (q := 231) dX1_holds_229 rfl rfl ?_ | refine aw_aloadQ (q := 231) dX1_holds_229 rfl rfl ?_
          first | refine aw_aload_n (i := 2) (q := 232) dX1_holds_231 rfl rfl rfl ?_ | refine aw_aloadN_n (i := 2) (q := 232) dX1_holds_231 rfl rfl rfl ?_ | refine aw_aloadQ_n (i := 2) (q := 232) dX1_holds_231 rfl rfl rfl ?_
          refine aw_getfield (q := 235) dX1_holds_232 gf_X1_263_5 (by assumption) rfl rfl ?_
          refine aw_iconst (v := 1) (q := 236) dX1_holds_235 rfl rfl ?_
          refine aw_icmp_ne (tgt := 243) (q := 239) dX1_holds_236 (by decide) rfl (fun hZ => absurd (rfl) hZ) (fun _ => ?_)
          refine aw_iconst (v := 0) (q := 240) dX1_holds_239 rfl rfl ?_
          refine aw_goto (tgt := 244) dX1_holds_240 (by decide) ?_
          refine aw_locals (by exact ⟨rfl, rfl, rfl, rfl, rfl, trivial⟩) (take μ5 0 0 hy (by decide) (if_pos rfl).symm (by rw [hg_μ5, hg_μ4, updM_twice]))
        · skip
          refine aw_icmp_ne (tgt := 192) (q := 188) dX1_holds_185 (by decide) rfl (fun _ => ?_) (fun hZ => absurd hZ ((by decide)))
          refine aw_iconst (v := 2) (q := 193) dX1_holds_192 rfl rfl ?_
          refine aw_putfield (q := 196) dX1_holds_193 gf_X1_176_6 hob (by first | assumption | simp) (by first | rfl | exact znar_rf _ _ | exact zB_nar _) (by first | rfl | exact zfit_rf _ _ | exact zB_fit _) (Nat.le_of_ble_eq_true rfl) rfl (fun μ4 hg_μ4 => ?_)
          have hsh : μ4 _ = some _ := hg_μ4 ▸ (updM_ne nsh).trans hsh
          have hse : μ4 _ = some _ := hg_μ4 ▸ (updM_ne nse).trans hse
          have hp3 : μ4 _ = some _ := hg_μ4 ▸ (updM_ne npp).trans hp3
          have hob : μ4 _ = some _ := hg_μ4 ▸ updM_eq _ _ _
          simp only [List.set] at hob hg_μ4
          first | refine aw_aload (q := 198) dX1_holds_196 rfl rfl ?_ | refine aw_aloadN (q := 198) dX1_holds_196 rfl rfl ?_ | refine aw_aloadQ (q := 198) dX1_holds_196 rfl rfl ?_
          first | refine aw_aload_n (i := 2) (q := 199) dX1_holds_198 rfl rfl rfl ?_ | refine aw_aloadN_n (i := 2) (q := 199) dX1_holds_198 rfl rfl rfl ?_ | refine aw_aloadQ_n (i := 2) (q := 199) dX1_holds_198 rfl rfl rfl ?_
          refine aw_getfield (q := 202) dX1_holds_199 gf_X1_263_5 (by assumption) rfl rfl ?_
          refine aw_iconst (v := 1) (q := 203) dX1_holds_202 rfl rfl ?_
          refine aw_icmp_ne (tgt := 210) (q := 206) dX1_holds_203 (by decide) rfl (fun _ => ?_) (fun hZ => absurd hZ ((by decide)))
          first | refine aw_aload (q := 212) dX1_holds_210 rfl rfl ?_ | refine aw_aloadN (q := 212) dX1_holds_210 rfl rfl ?_ | refine aw_aloadQ (q := 212) dX1_holds_210 rfl rfl ?_
          refine aw_getfield (q := 215) dX1_holds_212 gf_X1_169_6 (by assumption) rfl rfl ?_
          first | refine aw_aload_n (i := 0) (q := 216) dX1_holds_215 rfl rfl rfl ?_ | refine aw_aloadN_n (i := 0) (q := 216) dX1_holds_215 rfl rfl rfl ?_ | refine aw_aloadQ_n (i := 0) (q := 216) dX1_holds_215 rfl rfl rfl ?_
          refine aw_getfield (q := 219) dX1_holds_216 gf_X1_9_1 (by assumption) rfl rfl ?_
          refine aw_iconst (v := 3) (q := 220) dX1_holds_219 rfl rfl ?_
          refine aw_iald (q := 221) (v := P 0 0 3) (3) dX1_holds_220 (by assumption) (by first | assumption | (simp only [← nI_add, ← pk_mul]; rfl) | rfl) (by omega) (by omega) ((hsf 3 (by decide)).trans (e0 3)) rfl ?_
          refine aw_imul (q := 222) dX1_holds_221 rfl ?_
          refine aw_bipush (v := 100) (q := 224) dX1_holds_222 rfl rfl ?_
          refine aw_idiv (q := 225) dX1_holds_224 (by decide) rfl ?_
          refine aw_putfield (q := 228) dX1_holds_225 gf_X1_290_6 hob (by first | assumption | simp) (by first | rfl | exact znar_rf _ _ | exact zB_nar _) (by first | rfl | exact zfit_rf _ _ | exact zB_fit _) (Nat.le_of_ble_eq_true rfl) rfl (fun μ5 hg_μ5 => ?_)
          have hsh : μ5 _ = some _ := hg_μ5 ▸ (updM_ne nsh).trans hsh
          have hse : μ5 _ = some _ := hg_μ5 ▸ (updM_ne nse).trans hse
          have hp3 : μ5 _ = some _ := hg_μ5 ▸ (updM_ne npp).trans hp3
          have hob : μ5 _ = some _ := hg_μ5 ▸ updM_eq _ _ _
          simp only [List.set] at hob hg_μ5
          first | refine aw_aload_n (i := 0) (q := 229) dX1_holds_228 rfl rfl rfl ?_ | refine aw_aloadN_n (i := 0) (q := 229) dX1_holds_228 rfl rfl rfl ?_ | refine aw_aloadQ_n (i := 0) (q := 229) dX1_holds_228 rfl rfl rfl ?_
          first | refine aw_aload (q := 231) dX1_holds_229 rfl rfl ?_ | refine aw_aloadN (q := 231) dX1_holds_229 rfl rfl ?_ | refine aw_aloadQ (q := 231) dX1_holds_229 rfl rfl ?_
          first | refine aw_aload_n (i := 2) (q := 232) dX1_holds_231 rfl rfl rfl ?_ | refine aw_aloadN_n (i := 2) (q := 232) dX1_holds_231 rfl rfl rfl ?_ | refine aw_aloadQ_n (i := 2) (q := 232) dX1_holds_231 rfl rfl rfl ?_
          refine aw_getfield (q := 235) dX1_holds_232 gf_X1_263_5 (by assumption) rfl rfl ?_
          refine aw_iconst (v := 1) (q := 236) dX1_holds_235 rfl rfl ?_
          refine aw_icmp_ne (tgt := 243) (q := 239) dX1_holds_236 (by decide) rfl (fun _ => ?_) (fun hZ => absurd hZ ((by decide)))
          refine aw_iconst (v := 3) (q := 244) dX1_holds_243 rfl rfl ?_
          refine aw_locals (by exact ⟨rfl, rfl, rfl, rfl, rfl, trivial⟩) (take μ5 (P 4 k 5 * P 0 0 3 / 100) 3 hy (by decide) (if_neg (by decide)).symm (by rw [hg_μ5, hg_μ4, updM_twice, eb 5]))
end ZPL
