/-! THE TWIN, part 19: count, what would be -/
set_option maxRecDepth 100000
def tCount (P : zP) (R : tR) (w : Int32) : Int32 :=
  if 5 ≤ w ∧ w ≤ 9 then tShowsIn P (w - 5) else if 17 ≤ w ∧ w ≤ 22 then P 0 0 (w.toNatClampNeg - 17)
  else if w = 0 then P 0 0 6 else if w = 1 then P 0 0 7 else if w = 2 then P 0 0 8 else if w = 3 then tFit P else if w = 4 then P 0 0 9
  else if w = 10 then P 0 0 10 else if w = 11 then P 0 0 12 else if w = 12 then P 0 0 11 else if w = 13 then nI R.2.2.1.1 else if w = 14 then nI R.1.1
  else if w = 15 then tSumR (fun l => P 2 l 1) (pcn P 8) else if w = 16 then tSumR (fun s => P 3 s 5) (pcn P 9) else -2
def tBrightC (P : zP) (x : Int32) : Int32 :=
  if 1 ≤ x ∧ x ≤ 90 then (if tFit (tDays P x.toNatClampNeg) < 0 then 0 else tBr (tDays P x.toNatClampNeg) (tFit (tDays P x.toNatClampNeg)).toNatClampNeg) else -2
def tStateC (P : zP) (s x : Int32) : Int32 :=
  if 0 ≤ s ∧ s ≤ P 0 0 9 - 1 then (if 1 ≤ x ∧ x ≤ 90 then tDays P x.toNatClampNeg 3 s.toNatClampNeg 3 else -2) else -1
def tNextC (P : zP) (d s : Int32) : Int32 :=
  if (P 0 0 6 ≤ d ∧ d ≤ P 0 0 6 + 60) ∧ (0 ≤ s ∧ s ≤ 5) then nI (tFirst P (6 * d.toNatClampNeg + s.toNatClampNeg)) else -2
def tWouldC (P : zP) (d s n w : Int32) : Int32 :=
  if tBar P d s n < 0 then tBar P d s n else if 0 ≤ w ∧ w ≤ 3 then (tTell P tZ d s.toNatClampNeg n.toNatClampNeg).2 w.toNatClampNeg else -2
section ZTW19
variable {G : zG} {μ : zM} {m : Nat} {lam : Nat → Nat} {K : Nat → Nat → Int32} {P : zP} {R : tR}
/-- what a method leaves that only asks: the same but for what it keeps aside -/
def tAsk (G : zG) (μ : zM) (m : Nat) (lam : Nat → Nat) (P : zP) (R : tR) (r : Int32) : Option Value → zM → Prop := fun v μ' => v = some (.int r) ∧ (∃ K', zTS G μ' m lam K' P R) ∧ zKp tTw μ μ'
theorem tAsk.same {r : Int32} (hS : zTS G μ m lam K P R) {x : Int32} (e : x = r) : tAsk G μ m lam P R r (some (.int x)) μ := by
  subst e
  exact ⟨rfl, ⟨K, hS⟩, zKp.rf⟩
theorem C2_count {w : Int32} (hS : zTS G μ m lam K P R) : Meets G 3 MX2_count [.ref m, .int w] μ (zPure (.int (tCount P R w)) μ) 0 0 := by
  obtain ⟨hT, hr⟩ := hS
  have hm := hT.m
  have h1 := hT.a1
  obtain ⟨hn, hN⟩ := hT.2.2.s
  obtain ⟨hln, hlN⟩ := hT.2.2.l
  have hG : ∀ c, c < 20 → K 1 c = P 0 0 c := fun c hc => hT.2.1.g hc
  refine meets_of (by decide +kernel) (Nat.le_of_ble_eq_true rfl) ?_
  refine aw_iload_n (i := 1) (q := 1) dX2_count_0 rfl rfl rfl ?_
  refine aw_iconst (v := 5) (q := 2) dX2_count_1 rfl rfl ?_
  refine aw_bipush (v := 9) (q := 4) dX2_count_2 rfl rfl ?_
  refine aw_callS (q := 7) dX2_count_4 (C2_in) cs_X2_49 rfl rfl (by decide) (by decide) (by first | exact Nat.le_of_ble_eq_true rfl | simp [zcat_rf, Value.category]) rfl (zpk ?_)
  refine aw_if_eq (tgt := 18) (q := 10) dX2_count_7 (by decide) rfl (fun ha => ?_) (fun ha => ?_)
  · refine aw_iload_n (i := 1) (q := 19) dX2_count_18 rfl rfl rfl ?_
    refine aw_bipush (v := 17) (q := 21) dX2_count_19 rfl rfl ?_
    refine aw_bipush (v := 22) (q := 23) dX2_count_21 rfl rfl ?_
    refine aw_callS (q := 26) dX2_count_23 (C2_in) cs_X2_49 rfl rfl (by decide) (by decide) (by first | exact Nat.le_of_ble_eq_true rfl | simp [zcat_rf, Value.category]) rfl (zpk ?_)
    refine aw_if_eq (tgt := 39) (q := 29) dX2_count_26 (by decide) rfl (fun hb => ?_) (fun hb => ?_)
    · refine aw_iconst (v := 0) (q := 40) dX2_count_39 rfl rfl ?_
      refine aw_istore_n (i := 2) (q := 41) dX2_count_40 rfl (by decide) rfl ?_
      refine aw_iload_n (i := 1) (q := 42) dX2_count_41 rfl rfl rfl ?_
      have n1 := zB_0 ha
      have n2 := zB_0 hb
      have e0 : tCount P R w = if w = 0 then P 0 0 6 else if w = 1 then P 0 0 7 else if w = 2 then P 0 0 8 else if w = 3 then tFit P else if w = 4 then P 0 0 9
        else if w = 10 then P 0 0 10 else if w = 11 then P 0 0 12 else if w = 12 then P 0 0 11 else if w = 13 then nI R.2.2.1.1 else if w = 14 then nI R.1.1
        else if w = 15 then tSumR (fun l => P 2 l 1) (pcn P 8) else if w = 16 then tSumR (fun s => P 3 s 5) (pcn P 9) else -2 := by rw [tCount, if_neg n1, if_neg n2]
      have ek : ∀ k x, nI k = x → k < 100 → x.toNatClampNeg = k := fun k x h h2 => by subst h; exact nI_clamp (by omega)
      rcases zSp w 16 with ⟨c, hc, rfl⟩ | hw
      · have h5 : c < 5 ∨ 9 < c := by
          refine Decidable.of_not_not (fun q => n1 ⟨?_, ?_⟩)
          · exact nI_le (a := 5) (b := c) (by omega) (by omega)
          · exact nI_le (a := c) (b := 9) (by omega) (by omega)
        have h17 : c = 0 ∨ c = 1 ∨ c = 2 ∨ c = 3 ∨ c = 4 ∨ c = 10 ∨ c = 11 ∨ c = 12 ∨ c = 13 ∨ c = 14 ∨ c = 15 ∨ c = 16 := by omega
        rcases h17 with rfl | rfl | rfl | rfl | rfl | rfl | rfl | rfl | rfl | rfl | rfl | rfl
        · skip
          refine aw_tableIn (tgt := 124) dX2_count_42 (by decide) (by decide) rfl (by decide) ?_
          first | refine aw_aload_n (i := 0) (q := 125) dX2_count_124 rfl rfl rfl ?_ | refine aw_aloadN_n (i := 0) (q := 125) dX2_count_124 rfl rfl rfl ?_ | refine aw_aloadQ_n (i := 0) (q := 125) dX2_count_124 rfl rfl rfl ?_
          refine aw_getfield (q := 128) dX2_count_125 gf_X2_7_2 (by assumption) rfl rfl ?_
          refine aw_bipush (v := 6) (q := 130) dX2_count_128 rfl rfl ?_
          refine aw_iald (q := 131) (v := P 0 0 6) (6) dX2_count_130 (by assumption) (by first | assumption | (simp only [← nI_add, ← pk_mul]; rfl) | rfl) (by omega) (by omega) (hG 6 (by omega)) rfl ?_
          exact aw_ireturn dX2_count_131 rfl (by first | rfl | exact zB_nar _) (⟨by rw [e0]; rfl, rfl⟩)
        · skip
          refine aw_tableIn (tgt := 132) dX2_count_42 (by decide) (by decide) rfl (by decide) ?_
          first | refine aw_aload_n (i := 0) (q := 133) dX2_count_132 rfl rfl rfl ?_ | refine aw_aloadN_n (i := 0) (q := 133) dX2_count_132 rfl rfl rfl ?_ | refine aw_aloadQ_n (i := 0) (q := 133) dX2_count_132 rfl rfl rfl ?_
          refine aw_getfield (q := 136) dX2_count_133 gf_X2_7_2 (by assumption) rfl rfl ?_
          refine aw_bipush (v := 7) (q := 138) dX2_count_136 rfl rfl ?_
          refine aw_iald (q := 139) (v := P 0 0 7) (7) dX2_count_138 (by assumption) (by first | assumption | (simp only [← nI_add, ← pk_mul]; rfl) | rfl) (by omega) (by omega) (hG 7 (by omega)) rfl ?_
          exact aw_ireturn dX2_count_139 rfl (by first | rfl | exact zB_nar _) (⟨by rw [e0]; rfl, rfl⟩)
        · skip
          refine aw_tableIn (tgt := 140) dX2_count_42 (by decide) (by decide) rfl (by decide) ?_
          first | refine aw_aload_n (i := 0) (q := 141) dX2_count_140 rfl rfl rfl ?_ | refine aw_aloadN_n (i := 0) (q := 141) dX2_count_140 rfl rfl rfl ?_ | refine aw_aloadQ_n (i := 0) (q := 141) dX2_count_140 rfl rfl rfl ?_
          refine aw_getfield (q := 144) dX2_count_141 gf_X2_7_2 (by assumption) rfl rfl ?_
          refine aw_bipush (v := 8) (q := 146) dX2_count_144 rfl rfl ?_
          refine aw_iald (q := 147) (v := P 0 0 8) (8) dX2_count_146 (by assumption) (by first | assumption | (simp only [← nI_add, ← pk_mul]; rfl) | rfl) (by omega) (by omega) (hG 8 (by omega)) rfl ?_
          exact aw_ireturn dX2_count_147 rfl (by first | rfl | exact zB_nar _) (⟨by rw [e0]; rfl, rfl⟩)
        · skip
          refine aw_tableIn (tgt := 148) dX2_count_42 (by decide) (by decide) rfl (by decide) ?_
          first | refine aw_aload_n (i := 0) (q := 149) dX2_count_148 rfl rfl rfl ?_ | refine aw_aloadN_n (i := 0) (q := 149) dX2_count_148 rfl rfl rfl ?_ | refine aw_aloadQ_n (i := 0) (q := 149) dX2_count_148 rfl rfl rfl ?_
          refine aw_callV (q := 152) dX2_count_149 (C2_fitted hT) cv_X2_64_2 (by assumption) rfl rfl (by decide) (by decide) (by first | exact Nat.le_of_ble_eq_true rfl | simp [zcat_rf, Value.category]) rfl (zpk ?_)
          exact aw_ireturn dX2_count_152 rfl (by first | rfl | exact zB_nar _) (⟨by rw [e0]; rfl, rfl⟩)
        · skip
          refine aw_tableIn (tgt := 153) dX2_count_42 (by decide) (by decide) rfl (by decide) ?_
          first | refine aw_aload_n (i := 0) (q := 154) dX2_count_153 rfl rfl rfl ?_ | refine aw_aloadN_n (i := 0) (q := 154) dX2_count_153 rfl rfl rfl ?_ | refine aw_aloadQ_n (i := 0) (q := 154) dX2_count_153 rfl rfl rfl ?_
          refine aw_getfield (q := 157) dX2_count_154 gf_X2_7_2 (by assumption) rfl rfl ?_
          refine aw_bipush (v := 9) (q := 159) dX2_count_157 rfl rfl ?_
          refine aw_iald (q := 160) (v := P 0 0 9) (9) dX2_count_159 (by assumption) (by first | assumption | (simp only [← nI_add, ← pk_mul]; rfl) | rfl) (by omega) (by omega) (hG 9 (by omega)) rfl ?_
          exact aw_ireturn dX2_count_160 rfl (by first | rfl | exact zB_nar _) (⟨by rw [e0]; rfl, rfl⟩)
        · skip
          refine aw_tableIn (tgt := 161) dX2_count_42 (by decide) (by decide) rfl (by decide) ?_
          first | refine aw_aload_n (i := 0) (q := 162) dX2_count_161 rfl rfl rfl ?_ | refine aw_aloadN_n (i := 0) (q := 162) dX2_count_161 rfl rfl rfl ?_ | refine aw_aloadQ_n (i := 0) (q := 162) dX2_count_161 rfl rfl rfl ?_
          refine aw_getfield (q := 165) dX2_count_162 gf_X2_7_2 (by assumption) rfl rfl ?_
          refine aw_bipush (v := 10) (q := 167) dX2_count_165 rfl rfl ?_
          refine aw_iald (q := 168) (v := P 0 0 10) (10) dX2_count_167 (by assumption) (by first | assumption | (simp only [← nI_add, ← pk_mul]; rfl) | rfl) (by omega) (by omega) (hG 10 (by omega)) rfl ?_
          exact aw_ireturn dX2_count_168 rfl (by first | rfl | exact zB_nar _) (⟨by rw [e0]; rfl, rfl⟩)
        · skip
          refine aw_tableIn (tgt := 169) dX2_count_42 (by decide) (by decide) rfl (by decide) ?_
          first | refine aw_aload_n (i := 0) (q := 170) dX2_count_169 rfl rfl rfl ?_ | refine aw_aloadN_n (i := 0) (q := 170) dX2_count_169 rfl rfl rfl ?_ | refine aw_aloadQ_n (i := 0) (q := 170) dX2_count_169 rfl rfl rfl ?_
          refine aw_getfield (q := 173) dX2_count_170 gf_X2_7_2 (by assumption) rfl rfl ?_
          refine aw_bipush (v := 12) (q := 175) dX2_count_173 rfl rfl ?_
          refine aw_iald (q := 176) (v := P 0 0 12) (12) dX2_count_175 (by assumption) (by first | assumption | (simp only [← nI_add, ← pk_mul]; rfl) | rfl) (by omega) (by omega) (hG 12 (by omega)) rfl ?_
          exact aw_ireturn dX2_count_176 rfl (by first | rfl | exact zB_nar _) (⟨by rw [e0]; rfl, rfl⟩)
        · skip
          refine aw_tableIn (tgt := 177) dX2_count_42 (by decide) (by decide) rfl (by decide) ?_
          first | refine aw_aload_n (i := 0) (q := 178) dX2_count_177 rfl rfl rfl ?_ | refine aw_aloadN_n (i := 0) (q := 178) dX2_count_177 rfl rfl rfl ?_ | refine aw_aloadQ_n (i := 0) (q := 178) dX2_count_177 rfl rfl rfl ?_
          refine aw_getfield (q := 181) dX2_count_178 gf_X2_7_2 (by assumption) rfl rfl ?_
          refine aw_bipush (v := 11) (q := 183) dX2_count_181 rfl rfl ?_
          refine aw_iald (q := 184) (v := P 0 0 11) (11) dX2_count_183 (by assumption) (by first | assumption | (simp only [← nI_add, ← pk_mul]; rfl) | rfl) (by omega) (by omega) (hG 11 (by omega)) rfl ?_
          exact aw_ireturn dX2_count_184 rfl (by first | rfl | exact zB_nar _) (⟨by rw [e0]; rfl, rfl⟩)
        · skip
          refine aw_tableIn (tgt := 185) dX2_count_42 (by decide) (by decide) rfl (by decide) ?_
          first | refine aw_aload_n (i := 0) (q := 186) dX2_count_185 rfl rfl rfl ?_ | refine aw_aloadN_n (i := 0) (q := 186) dX2_count_185 rfl rfl rfl ?_ | refine aw_aloadQ_n (i := 0) (q := 186) dX2_count_185 rfl rfl rfl ?_
          refine aw_getfield (q := 189) dX2_count_186 gf_X2_167_2 (by assumption) rfl rfl ?_
          exact aw_ireturn dX2_count_189 rfl (by first | rfl | exact zB_nar _) (⟨by rw [e0, hr.2.2.2.2.2.1]; rfl, rfl⟩)
        · skip
          refine aw_tableIn (tgt := 190) dX2_count_42 (by decide) (by decide) rfl (by decide) ?_
          first | refine aw_aload_n (i := 0) (q := 191) dX2_count_190 rfl rfl rfl ?_ | refine aw_aloadN_n (i := 0) (q := 191) dX2_count_190 rfl rfl rfl ?_ | refine aw_aloadQ_n (i := 0) (q := 191) dX2_count_190 rfl rfl rfl ?_
          refine aw_getfield (q := 194) dX2_count_191 gf_X2_45_2 (by assumption) rfl rfl ?_
          exact aw_ireturn dX2_count_194 rfl (by first | rfl | exact zB_nar _) (⟨by rw [e0, hr.1]; rfl, rfl⟩)
        · have e15 : tCount P R (nI 15) = tSumR (fun l => P 2 l 1) (pcn P 8) := by rw [e0]; rfl
          rw [e15]
          refine aw_tableIn (tgt := 195) dX2_count_42 (by decide) (by decide) rfl (by decide) ?_
          refine aw_iconst (v := 0) (q := 196) dX2_count_195 rfl rfl ?_
          refine aw_istore_n (i := 3) (q := 197) dX2_count_196 rfl (by decide) rfl ?_
          have loop : ∀ n e, e + n = pcn P 8 → AW G 3 MX2_count (zPure (.int (tSumR (fun l => P 2 l 1) (pcn P 8))) μ) 0 0 197 [(0, .ref m), (2, .int (tSumR (fun l => P 2 l 1) e)), (3, .int (nI e))] [] μ := by
            intro n
            induction n with
            | zero =>
              intro e he
              refine aw_iload_n (i := 3) (q := 198) dX2_count_197 rfl rfl rfl ?_
              first | refine aw_aload_n (i := 0) (q := 199) dX2_count_198 rfl rfl rfl ?_ | refine aw_aloadN_n (i := 0) (q := 199) dX2_count_198 rfl rfl rfl ?_ | refine aw_aloadQ_n (i := 0) (q := 199) dX2_count_198 rfl rfl rfl ?_
              refine aw_getfield (q := 202) dX2_count_199 gf_X2_7_2 (by assumption) rfl rfl ?_
              refine aw_bipush (v := 8) (q := 204) dX2_count_202 rfl rfl ?_
              refine aw_iald (q := 205) (v := nI (pcn P 8)) (8) dX2_count_204 (by assumption) (by first | assumption | (simp only [← nI_add, ← pk_mul]; rfl) | rfl) (by omega) (by omega) ((hT.2.1.g (by omega)).trans hln) rfl ?_
              refine aw_icmp_ge (tgt := 230) (q := 208) dX2_count_205 (by decide) rfl (fun _ => ?_) (fun hc => absurd (nI_le (by omega) (by omega)) hc)
              refine aw_iload_n (i := 2) (q := 231) dX2_count_230 rfl rfl rfl ?_
              exact aw_ireturn dX2_count_231 rfl (by first | rfl | exact zB_nar _) (by refine ⟨?_, rfl⟩; rw [show pcn P 8 = e by omega])
            | succ n ih =>
              intro e he
              have hlt : e < pcn P 8 := by omega
              refine aw_iload_n (i := 3) (q := 198) dX2_count_197 rfl rfl rfl ?_
              first | refine aw_aload_n (i := 0) (q := 199) dX2_count_198 rfl rfl rfl ?_ | refine aw_aloadN_n (i := 0) (q := 199) dX2_count_198 rfl rfl rfl ?_ | refine aw_aloadQ_n (i := 0) (q := 199) dX2_count_198 rfl rfl rfl ?_
              refine aw_getfield (q := 202) dX2_count_199 gf_X2_7_2 (by assumption) rfl rfl ?_
              refine aw_bipush (v := 8) (q := 204) dX2_count_202 rfl rfl ?_
              refine aw_iald (q := 205) (v := nI (pcn P 8)) (8) dX2_count_204 (by assumption) (by first | assumption | (simp only [← nI_add, ← pk_mul]; rfl) | rfl) (by omega) (by omega) ((hT.2.1.g (by omega)).trans hln) rfl ?_
              refine aw_icmp_ge (tgt := 230) (q := 208) dX2_count_205 (by decide) rfl (fun hc => absurd hc (nI_ge hlt (by omega))) (fun _ => ?_)
              refine aw_iload_n (i := 2) (q := 209) dX2_count_208 rfl rfl rfl ?_
              first | refine aw_aload_n (i := 0) (q := 210) dX2_count_209 rfl rfl rfl ?_ | refine aw_aloadN_n (i := 0) (q := 210) dX2_count_209 rfl rfl rfl ?_ | refine aw_aloadQ_n (i := 0) (q := 210) dX2_count_209 rfl rfl rfl ?_
              refine aw_getfield (q := 213) dX2_count_210 gf_X2_7_2 (by assumption) rfl rfl ?_
              refine aw_bipush (v := 50) (q := 215) dX2_count_213 rfl rfl ?_
              refine aw_iconst (v := 4) (q := 216) dX2_count_215 rfl rfl ?_
              refine aw_iload_n (i := 3) (q := 217) dX2_count_216 rfl rfl rfl ?_
              refine aw_imul (q := 218) dX2_count_217 rfl ?_
              refine aw_iadd (q := 219) dX2_count_218 rfl ?_
              refine aw_iconst (v := 1) (q := 220) dX2_count_219 rfl rfl ?_
              refine aw_iadd (q := 221) dX2_count_220 rfl ?_
              refine aw_iald (q := 222) (v := P 2 e 1) (50 + 4 * e + 1) dX2_count_221 (by assumption) (by first | assumption | (simp only [← nI_add, ← pk_mul]; rfl) | rfl) (by omega) (by omega) (hT.2.1.la (by omega) (by omega)) rfl ?_
              refine aw_iadd (q := 223) dX2_count_222 rfl ?_
              refine aw_istore_n (i := 2) (q := 224) dX2_count_223 rfl (by decide) rfl ?_
              refine aw_iinc (q := 227) dX2_count_224 rfl (by first | exact nI_1 _ | rfl) (by decide) rfl ?_
              refine aw_goto (tgt := 197) dX2_count_227 (by decide) ?_
              exact aw_locals (by exact ⟨rfl, rfl, rfl, trivial⟩) (ih (e + 1) (by omega))
          exact aw_locals (by exact ⟨rfl, rfl, rfl, trivial⟩) (loop (pcn P 8) 0 (by omega))
        · have e16 : tCount P R (nI 16) = tSumR (fun s => P 3 s 5) (pcn P 9) := by rw [e0]; rfl
          rw [e16]
          refine aw_tableIn (tgt := 232) dX2_count_42 (by decide) (by decide) rfl (by decide) ?_
          refine aw_iconst (v := 0) (q := 233) dX2_count_232 rfl rfl ?_
          refine aw_istore_n (i := 3) (q := 234) dX2_count_233 rfl (by decide) rfl ?_
          have loop : ∀ n e, e + n = pcn P 9 → AW G 3 MX2_count (zPure (.int (tSumR (fun s => P 3 s 5) (pcn P 9))) μ) 0 0 234 [(0, .ref m), (2, .int (tSumR (fun s => P 3 s 5) e)), (3, .int (nI e))] [] μ := by
            intro n
            induction n with
            | zero =>
              intro e he
              refine aw_iload_n (i := 3) (q := 235) dX2_count_234 rfl rfl rfl ?_
              first | refine aw_aload_n (i := 0) (q := 236) dX2_count_235 rfl rfl rfl ?_ | refine aw_aloadN_n (i := 0) (q := 236) dX2_count_235 rfl rfl rfl ?_ | refine aw_aloadQ_n (i := 0) (q := 236) dX2_count_235 rfl rfl rfl ?_
              refine aw_getfield (q := 239) dX2_count_236 gf_X2_7_2 (by assumption) rfl rfl ?_
              refine aw_bipush (v := 9) (q := 241) dX2_count_239 rfl rfl ?_
              refine aw_iald (q := 242) (v := nI (pcn P 9)) (9) dX2_count_241 (by assumption) (by first | assumption | (simp only [← nI_add, ← pk_mul]; rfl) | rfl) (by omega) (by omega) ((hT.2.1.g (by omega)).trans hn) rfl ?_
              refine aw_icmp_ge (tgt := 260) (q := 245) dX2_count_242 (by decide) rfl (fun _ => ?_) (fun hc => absurd (nI_le (by omega) (by omega)) hc)
              refine aw_iload_n (i := 2) (q := 261) dX2_count_260 rfl rfl rfl ?_
              exact aw_ireturn dX2_count_261 rfl (by first | rfl | exact zB_nar _) (by refine ⟨?_, rfl⟩; rw [show pcn P 9 = e by omega])
            | succ n ih =>
              intro e he
              have hlt : e < pcn P 9 := by omega
              refine aw_iload_n (i := 3) (q := 235) dX2_count_234 rfl rfl rfl ?_
              first | refine aw_aload_n (i := 0) (q := 236) dX2_count_235 rfl rfl rfl ?_ | refine aw_aloadN_n (i := 0) (q := 236) dX2_count_235 rfl rfl rfl ?_ | refine aw_aloadQ_n (i := 0) (q := 236) dX2_count_235 rfl rfl rfl ?_
              refine aw_getfield (q := 239) dX2_count_236 gf_X2_7_2 (by assumption) rfl rfl ?_
              refine aw_bipush (v := 9) (q := 241) dX2_count_239 rfl rfl ?_
              refine aw_iald (q := 242) (v := nI (pcn P 9)) (9) dX2_count_241 (by assumption) (by first | assumption | (simp only [← nI_add, ← pk_mul]; rfl) | rfl) (by omega) (by omega) ((hT.2.1.g (by omega)).trans hn) rfl ?_
              refine aw_icmp_ge (tgt := 260) (q := 245) dX2_count_242 (by decide) rfl (fun hc => absurd hc (nI_ge hlt (by omega))) (fun _ => ?_)
              refine aw_iload_n (i := 2) (q := 246) dX2_count_245 rfl rfl rfl ?_
              first | refine aw_aload_n (i := 0) (q := 247) dX2_count_246 rfl rfl rfl ?_ | refine aw_aloadN_n (i := 0) (q := 247) dX2_count_246 rfl rfl rfl ?_ | refine aw_aloadQ_n (i := 0) (q := 247) dX2_count_246 rfl rfl rfl ?_
              refine aw_iload_n (i := 3) (q := 248) dX2_count_247 rfl rfl rfl ?_
              refine aw_iconst (v := 5) (q := 249) dX2_count_248 rfl rfl ?_
              refine aw_callV (q := 252) dX2_count_249 (C2_ofShow (s := e) (c := 5) hT rfl rfl (by omega) (by omega)) cv_X2_75_2 (by assumption) rfl rfl (by decide) (by decide) (by first | exact Nat.le_of_ble_eq_true rfl | simp [zcat_rf, Value.category]) rfl (zpk ?_)
              refine aw_iadd (q := 253) dX2_count_252 rfl ?_
              refine aw_istore_n (i := 2) (q := 254) dX2_count_253 rfl (by decide) rfl ?_
              refine aw_iinc (q := 257) dX2_count_254 rfl (by first | exact nI_1 _ | rfl) (by decide) rfl ?_
              refine aw_goto (tgt := 234) dX2_count_257 (by decide) ?_
              exact aw_locals (by exact ⟨rfl, rfl, rfl, trivial⟩) (ih (e + 1) (by omega))
          exact aw_locals (by exact ⟨rfl, rfl, rfl, trivial⟩) (loop (pcn P 9) 0 (by omega))
      · skip
        refine aw_tableOut (tgt := 262) dX2_count_42 (zSw (h := 16) hw) (by decide) ?_
        refine aw_bipush (v := (-2)) (q := 264) dX2_count_262 rfl rfl ?_
        have hk : ∀ k, k ≤ 16 → ¬ w = nI k := hw
        exact aw_ireturn dX2_count_264 rfl (by first | rfl | exact zB_nar _) (by refine ⟨?_, rfl⟩; rw [e0, if_neg (show ¬ w = 0 from hk 0 (by omega)), if_neg (show ¬ w = 1 from hk 1 (by omega)), if_neg (show ¬ w = 2 from hk 2 (by omega)), if_neg (show ¬ w = 3 from hk 3 (by omega)), if_neg (show ¬ w = 4 from hk 4 (by omega)), if_neg (show ¬ w = 10 from hk 10 (by omega)), if_neg (show ¬ w = 11 from hk 11 (by omega)), if_neg (show ¬ w = 12 from hk 12 (by omega)), if_neg (show ¬ w = 13 from hk 13 (by omega)), if_neg (show ¬ w = 14 from hk 14 (by omega)), if_neg (show ¬ w = 15 from hk 15 (by omega)), if_neg (show ¬ w = 16 from hk 16 (by omega))])
    · skip
      obtain ⟨c, c1, c2, rfl⟩ := zOf (A := 17) (B := 22) rfl rfl (by omega) (by omega) (zB_1 hb)
      have e2 : nI c - 17 = nI (c - 17) := pk_sub (a := c) (b := 17) c1
      first | refine aw_aload_n (i := 0) (q := 30) dX2_count_29 rfl rfl rfl ?_ | refine aw_aloadN_n (i := 0) (q := 30) dX2_count_29 rfl rfl rfl ?_ | refine aw_aloadQ_n (i := 0) (q := 30) dX2_count_29 rfl rfl rfl ?_
      refine aw_getfield (q := 33) dX2_count_30 gf_X2_7_2 (by assumption) rfl rfl ?_
      refine aw_iload_n (i := 1) (q := 34) dX2_count_33 rfl rfl rfl ?_
      refine aw_bipush (v := 17) (q := 36) dX2_count_34 rfl rfl ?_
      refine aw_isub (q := 37) dX2_count_36 rfl ?_
      refine aw_iald (q := 38) (v := P 0 0 (c - 17)) (c - 17) dX2_count_37 (by assumption) (by first | assumption | (simp only [← nI_add, ← pk_mul]; rfl) | rfl) (by omega) (by omega) (hG _ (by omega)) rfl ?_
      exact aw_ireturn dX2_count_38 rfl (by first | rfl | exact zB_nar _) (by refine ⟨?_, rfl⟩; rw [tCount, if_neg (zB_0 ha), if_pos (zB_1 hb), nI_clamp (by omega)])
  · first | refine aw_aload_n (i := 0) (q := 11) dX2_count_10 rfl rfl rfl ?_ | refine aw_aloadN_n (i := 0) (q := 11) dX2_count_10 rfl rfl rfl ?_ | refine aw_aloadQ_n (i := 0) (q := 11) dX2_count_10 rfl rfl rfl ?_
    refine aw_iload_n (i := 1) (q := 12) dX2_count_11 rfl rfl rfl ?_
    refine aw_iconst (v := 5) (q := 13) dX2_count_12 rfl rfl ?_
    refine aw_isub (q := 14) dX2_count_13 rfl ?_
    refine aw_callV (q := 17) dX2_count_14 (C2_showsIn hT) cv_X2_152_2 (by assumption) rfl rfl (by decide) (by decide) (by first | exact Nat.le_of_ble_eq_true rfl | simp [zcat_rf, Value.category]) rfl (zpk ?_)
    exact aw_ireturn dX2_count_17 rfl (by first | rfl | exact zB_nar _) (by refine ⟨?_, rfl⟩; rw [tCount, if_pos (zB_1 ha)])
/-- days go by, then all comes back: the days' part -/
theorem tAsk_back {Q : zP} {μ1 : zM} {K1 : Nat → Nat → Int32} {f : Nat → Int32} (hf : ∀ j, j < 1980 → f j = K 1 j) (hS : zTS G μ m lam K P R) (hK : K1 2 = f) : RepN (K1 2) P := by
  rw [hK]; exact hS.1.2.1.congr hf
theorem C2_brightness {x : Int32} (hS : zTS G μ m lam K P R) (hI : tPI P) : Meets G 7 MX2_brightness [.ref m, .int x] μ (tAsk G μ m lam P R (tBrightC P x)) 0 0 := by
  have hm := hS.1.m
  refine meets_of (by decide +kernel) (Nat.le_of_ble_eq_true rfl) ?_
  refine aw_iload_n (i := 1) (q := 1) dX2_brightness_0 rfl rfl rfl ?_
  refine aw_iconst (v := 1) (q := 2) dX2_brightness_1 rfl rfl ?_
  refine aw_bipush (v := 90) (q := 4) dX2_brightness_2 rfl rfl ?_
  refine aw_callS (q := 7) dX2_brightness_4 (C2_in) cs_X2_49 rfl rfl (by decide) (by decide) (by first | exact Nat.le_of_ble_eq_true rfl | simp [zcat_rf, Value.category]) rfl (zpk ?_)
  refine aw_if_ne (tgt := 13) (q := 10) dX2_brightness_7 (by decide) rfl (fun ha => ?_) (fun ha => ?_)
  · skip
    obtain ⟨n, hn1, hn2, rfl⟩ := zOf (A := 1) (B := 90) rfl rfl (by omega) (by omega) (zB_1 ha)
    have e0 : tBrightC P (nI n) = if tFit (tDays P n) < 0 then 0 else tBr (tDays P n) (tFit (tDays P n)).toNatClampNeg := by rw [tBrightC, if_pos (zB_1 ha), nI_clamp (by omega)]
    first | refine aw_aload_n (i := 0) (q := 14) dX2_brightness_13 rfl rfl rfl ?_ | refine aw_aloadN_n (i := 0) (q := 14) dX2_brightness_13 rfl rfl rfl ?_ | refine aw_aloadQ_n (i := 0) (q := 14) dX2_brightness_13 rfl rfl rfl ?_
    refine aw_callV (q := 17) dX2_brightness_14 (C2_keep hS.1) cv_X2_170_2 (by assumption) rfl rfl (by decide) (by decide) (by first | exact Nat.le_of_ble_eq_true rfl | simp [zcat_rf, Value.category]) rfl (fun v14 μ1 hp => ?_)
    obtain ⟨rfl, ⟨f, hf, hT⟩, hk⟩ := hp
    refine aw_iconst (v := 0) (q := 18) dX2_brightness_17 rfl rfl ?_
    refine aw_istore_n (i := 2) (q := 19) dX2_brightness_18 rfl (by decide) rfl ?_
    have loop : ∀ k e, e + k = n → ∀ (μ1 : zM) (D f1 : Nat → Int32), zTP G μ1 m lam (setK (setK (setK K 2 f) 8 D) 1 f1) (tDays P e) → zKp tTw μ μ1 → AW G 7 MX2_brightness (tAsk G μ m lam P R (tBrightC P (nI n))) 0 0 19 [(0, .ref m), (1, .int (nI n)), (2, .int (nI e))] [] μ1 := by
      intro k
      induction k with
      | zero =>
        intro e he μ1 D f1 hT hk
        have en : e = n := by omega
        subst en
        have hm := hT.m
        have back : ∀ v : Int32, v = tBrightC P (nI e) → AW G 7 MX2_brightness (tAsk G μ m lam P R (tBrightC P (nI e))) 0 0 52 [(0, .ref m)] [.int v] μ1 := by
          intro v hv
          subst hv
          refine aw_istore_n (i := 3) (q := 53) dX2_brightness_52 rfl (by decide) rfl ?_
          first | refine aw_aload_n (i := 0) (q := 54) dX2_brightness_53 rfl rfl rfl ?_ | refine aw_aloadN_n (i := 0) (q := 54) dX2_brightness_53 rfl rfl rfl ?_ | refine aw_aloadQ_n (i := 0) (q := 54) dX2_brightness_53 rfl rfl rfl ?_
          refine aw_callV (q := 57) dX2_brightness_54 (C2_comeBack (Q := P) hT (hS.1.2.1.congr hf) hS.1.2.2) cv_X2_173_2 (by assumption) rfl rfl (by decide) (by decide) (by first | exact Nat.le_of_ble_eq_true rfl | simp [zcat_rf, Value.category]) rfl (fun v54 μ2 hp => ?_)
          obtain ⟨rfl, ⟨f2, hT2⟩, hk2⟩ := hp
          refine aw_iload_n (i := 3) (q := 58) dX2_brightness_57 rfl rfl rfl ?_
          exact aw_ireturn dX2_brightness_58 rfl (by first | rfl | exact zB_nar _) (⟨rfl, ⟨_, hT2, hS.2.congr (fun _ _ => rfl) rfl rfl rfl rfl⟩, hk.tr hk2⟩)
        refine aw_iload_n (i := 2) (q := 20) dX2_brightness_19 rfl rfl rfl ?_
        refine aw_iload_n (i := 1) (q := 21) dX2_brightness_20 rfl rfl rfl ?_
        refine aw_icmp_ge (tgt := 34) (q := 24) dX2_brightness_21 (by decide) rfl (fun _ => ?_) (fun hc => absurd (nI_le (by omega) (by omega)) hc)
        first | refine aw_aload_n (i := 0) (q := 35) dX2_brightness_34 rfl rfl rfl ?_ | refine aw_aloadN_n (i := 0) (q := 35) dX2_brightness_34 rfl rfl rfl ?_ | refine aw_aloadQ_n (i := 0) (q := 35) dX2_brightness_34 rfl rfl rfl ?_
        refine aw_callV (q := 38) dX2_brightness_35 (C2_fitted hT) cv_X2_64_2 (by assumption) rfl rfl (by decide) (by decide) (by first | exact Nat.le_of_ble_eq_true rfl | simp [zcat_rf, Value.category]) rfl (zpk ?_)
        refine aw_istore_n (i := 2) (q := 39) dX2_brightness_38 rfl (by decide) rfl ?_
        refine aw_iload_n (i := 2) (q := 40) dX2_brightness_39 rfl rfl rfl ?_
        refine aw_if_ge (tgt := 47) (q := 43) dX2_brightness_40 (by decide) rfl (fun hb => ?_) (fun hb => ?_)
        · skip
          have hnb : ¬ tFit (tDays P e) < 0 := Int32.not_lt.mpr hb
          have hIe := tDays_inv hI.1 e
          rcases tFitted_lt (P := tDays P e) (pcn (tDays P e) 8) with q | ⟨l, l1, l2, l3⟩
          · exact absurd (show tFit (tDays P e) < 0 by rw [tFit, q]; decide) hnb
          · have el : tFit (tDays P e) = nI l := l2
            have lN := hIe.1.l.2
            rw [el]
            first | refine aw_aload_n (i := 0) (q := 48) dX2_brightness_47 rfl rfl rfl ?_ | refine aw_aloadN_n (i := 0) (q := 48) dX2_brightness_47 rfl rfl rfl ?_ | refine aw_aloadQ_n (i := 0) (q := 48) dX2_brightness_47 rfl rfl rfl ?_
            refine aw_iload_n (i := 2) (q := 49) dX2_brightness_48 rfl rfl rfl ?_
            refine aw_callV (q := 52) dX2_brightness_49 (C2_brightOf hT rfl (by omega) (hIe.2.2.1 l l1)) cv_X2_140_2 (by assumption) rfl rfl (by decide) (by decide) (by first | exact Nat.le_of_ble_eq_true rfl | simp [zcat_rf, Value.category]) rfl (zpk ?_)
            exact aw_locals (by exact ⟨rfl, trivial⟩) (back _ (by rw [e0, if_neg hnb, el, nI_clamp (by omega)]; rfl))
        · refine aw_iconst (v := 0) (q := 44) dX2_brightness_43 rfl rfl ?_
          refine aw_goto (tgt := 52) dX2_brightness_44 (by decide) ?_
          exact aw_locals (by exact ⟨rfl, trivial⟩) (back 0 (by rw [e0, if_pos (Int32.not_le.mp hb)]))
      | succ k ih =>
        intro e he μ1 D f1 hT hk
        have hm := hT.m
        refine aw_iload_n (i := 2) (q := 20) dX2_brightness_19 rfl rfl rfl ?_
        refine aw_iload_n (i := 1) (q := 21) dX2_brightness_20 rfl rfl rfl ?_
        refine aw_icmp_ge (tgt := 34) (q := 24) dX2_brightness_21 (by decide) rfl (fun hc => absurd hc (nI_ge (b := n) (a := e) (by omega) (by omega))) (fun _ => ?_)
        first | refine aw_aload_n (i := 0) (q := 25) dX2_brightness_24 rfl rfl rfl ?_ | refine aw_aloadN_n (i := 0) (q := 25) dX2_brightness_24 rfl rfl rfl ?_ | refine aw_aloadQ_n (i := 0) (q := 25) dX2_brightness_24 rfl rfl rfl ?_
        refine aw_callV (q := 28) dX2_brightness_25 (C2_passDay hT (tDays_inv hI.1 e)) cv_X2_155_2 (by assumption) rfl rfl (by decide) (by decide) (by first | exact Nat.le_of_ble_eq_true rfl | simp [zcat_rf, Value.category]) rfl (fun v25 μ2 hp => ?_)
        obtain ⟨rfl, ⟨f2, hT2⟩, hk2⟩ := hp
        rw [tDays_step, setK_comm _ _ _ (by decide : (1 : Nat) ≠ 8), setK_twice, setK_twice] at hT2
        refine aw_iinc (q := 31) dX2_brightness_28 rfl (by first | exact nI_1 _ | rfl) (by decide) rfl ?_
        refine aw_goto (tgt := 19) dX2_brightness_31 (by decide) ?_
        exact aw_locals (by exact ⟨rfl, rfl, rfl, trivial⟩) (ih (e + 1) (by omega) μ2 _ f2 hT2 (hk.tr hk2))
    exact aw_locals (by exact ⟨rfl, rfl, rfl, trivial⟩) (loop n 0 (by omega) μ1 (setK K 2 f 8) (setK K 2 f 1) (by show zTP G μ1 m lam (setK (setK (setK K 2 f) 8 (setK K 2 f 8)) 1 (setK K 2 f 1)) P; rw [setK_self, setK_self]; exact hT) hk)
  · refine aw_bipush (v := (-2)) (q := 12) dX2_brightness_10 rfl rfl ?_
    exact aw_ireturn dX2_brightness_12 rfl (by first | rfl | exact zB_nar _) (tAsk.same hS (by rw [tBrightC, if_neg (zB_0 ha)]))
theorem C2_stateIn {s x : Int32} (hS : zTS G μ m lam K P R) (hI : tPI P) : Meets G 7 MX2_stateIn [.ref m, .int s, .int x] μ (tAsk G μ m lam P R (tStateC P s x)) 0 0 := by
  have hm := hS.1.m
  obtain ⟨hn, hN⟩ := hS.1.2.2.s
  refine meets_of (by decide +kernel) (Nat.le_of_ble_eq_true rfl) ?_
  first | refine aw_aload_n (i := 0) (q := 1) dX2_stateIn_0 rfl rfl rfl ?_ | refine aw_aloadN_n (i := 0) (q := 1) dX2_stateIn_0 rfl rfl rfl ?_ | refine aw_aloadQ_n (i := 0) (q := 1) dX2_stateIn_0 rfl rfl rfl ?_
  refine aw_iload_n (i := 1) (q := 2) dX2_stateIn_1 rfl rfl rfl ?_
  refine aw_callV (q := 5) dX2_stateIn_2 (C2_isShow hS.1) cv_X2_97_2 (by assumption) rfl rfl (by decide) (by decide) (by first | exact Nat.le_of_ble_eq_true rfl | simp [zcat_rf, Value.category]) rfl (zpk ?_)
  refine aw_if_ne (tgt := 10) (q := 8) dX2_stateIn_5 (by decide) rfl (fun hs => ?_) (fun hs => ?_)
  · skip
    have gs := zB_1 hs
    obtain ⟨j, hj, rfl⟩ := tIx hn (by omega) gs
    refine aw_iload_n (i := 2) (q := 11) dX2_stateIn_10 rfl rfl rfl ?_
    refine aw_iconst (v := 1) (q := 12) dX2_stateIn_11 rfl rfl ?_
    refine aw_bipush (v := 90) (q := 14) dX2_stateIn_12 rfl rfl ?_
    refine aw_callS (q := 17) dX2_stateIn_14 (C2_in) cs_X2_49 rfl rfl (by decide) (by decide) (by first | exact Nat.le_of_ble_eq_true rfl | simp [zcat_rf, Value.category]) rfl (zpk ?_)
    refine aw_if_ne (tgt := 23) (q := 20) dX2_stateIn_17 (by decide) rfl (fun ha => ?_) (fun ha => ?_)
    · skip
      obtain ⟨n, hn1, hn2, rfl⟩ := zOf (A := 1) (B := 90) rfl rfl (by omega) (by omega) (zB_1 ha)
      have e0 : tStateC P (nI j) (nI n) = tDays P n 3 j 3 := by rw [tStateC, if_pos gs, if_pos (zB_1 ha), nI_clamp (by omega), nI_clamp (by omega)]
      first | refine aw_aload_n (i := 0) (q := 24) dX2_stateIn_23 rfl rfl rfl ?_ | refine aw_aloadN_n (i := 0) (q := 24) dX2_stateIn_23 rfl rfl rfl ?_ | refine aw_aloadQ_n (i := 0) (q := 24) dX2_stateIn_23 rfl rfl rfl ?_
      refine aw_callV (q := 27) dX2_stateIn_24 (C2_keep hS.1) cv_X2_170_2 (by assumption) rfl rfl (by decide) (by decide) (by first | exact Nat.le_of_ble_eq_true rfl | simp [zcat_rf, Value.category]) rfl (fun v24 μ1 hp => ?_)
      obtain ⟨rfl, ⟨f, hf, hT⟩, hk⟩ := hp
      refine aw_iconst (v := 0) (q := 28) dX2_stateIn_27 rfl rfl ?_
      refine aw_istore_n (i := 3) (q := 29) dX2_stateIn_28 rfl (by decide) rfl ?_
      have loop : ∀ k e, e + k = n → ∀ (μ1 : zM) (D f1 : Nat → Int32), zTP G μ1 m lam (setK (setK (setK K 2 f) 8 D) 1 f1) (tDays P e) → zKp tTw μ μ1 → AW G 7 MX2_stateIn (tAsk G μ m lam P R (tStateC P (nI j) (nI n))) 0 0 29 [(0, .ref m), (1, .int (nI j)), (2, .int (nI n)), (3, .int (nI e))] [] μ1 := by
        intro k
        induction k with
        | zero =>
          intro e he μ1 D f1 hT hk
          have en : e = n := by omega
          subst en
          have hm := hT.m
          refine aw_iload_n (i := 3) (q := 30) dX2_stateIn_29 rfl rfl rfl ?_
          refine aw_iload_n (i := 2) (q := 31) dX2_stateIn_30 rfl rfl rfl ?_
          refine aw_icmp_ge (tgt := 44) (q := 34) dX2_stateIn_31 (by decide) rfl (fun _ => ?_) (fun hc => absurd (nI_le (by omega) (by omega)) hc)
          first | refine aw_aload_n (i := 0) (q := 45) dX2_stateIn_44 rfl rfl rfl ?_ | refine aw_aloadN_n (i := 0) (q := 45) dX2_stateIn_44 rfl rfl rfl ?_ | refine aw_aloadQ_n (i := 0) (q := 45) dX2_stateIn_44 rfl rfl rfl ?_
          refine aw_iload_n (i := 1) (q := 46) dX2_stateIn_45 rfl rfl rfl ?_
          refine aw_iconst (v := 3) (q := 47) dX2_stateIn_46 rfl rfl ?_
          refine aw_callV (q := 50) dX2_stateIn_47 (C2_ofShow (s := j) (c := 3) hT rfl rfl (by omega) (by omega)) cv_X2_75_2 (by assumption) rfl rfl (by decide) (by decide) (by first | exact Nat.le_of_ble_eq_true rfl | simp [zcat_rf, Value.category]) rfl (zpk ?_)
          refine aw_istore_n (i := 3) (q := 51) dX2_stateIn_50 rfl (by decide) rfl ?_
          first | refine aw_aload_n (i := 0) (q := 52) dX2_stateIn_51 rfl rfl rfl ?_ | refine aw_aloadN_n (i := 0) (q := 52) dX2_stateIn_51 rfl rfl rfl ?_ | refine aw_aloadQ_n (i := 0) (q := 52) dX2_stateIn_51 rfl rfl rfl ?_
          refine aw_callV (q := 55) dX2_stateIn_52 (C2_comeBack (Q := P) hT (hS.1.2.1.congr hf) hS.1.2.2) cv_X2_173_2 (by assumption) rfl rfl (by decide) (by decide) (by first | exact Nat.le_of_ble_eq_true rfl | simp [zcat_rf, Value.category]) rfl (fun v52 μ2 hp => ?_)
          obtain ⟨rfl, ⟨f2, hT2⟩, hk2⟩ := hp
          refine aw_iload_n (i := 3) (q := 56) dX2_stateIn_55 rfl rfl rfl ?_
          exact aw_ireturn dX2_stateIn_56 rfl (by first | rfl | exact zB_nar _) (⟨by rw [e0], ⟨_, hT2, hS.2.congr (fun _ _ => rfl) rfl rfl rfl rfl⟩, hk.tr hk2⟩)
        | succ k ih =>
          intro e he μ1 D f1 hT hk
          have hm := hT.m
          refine aw_iload_n (i := 3) (q := 30) dX2_stateIn_29 rfl rfl rfl ?_
          refine aw_iload_n (i := 2) (q := 31) dX2_stateIn_30 rfl rfl rfl ?_
          refine aw_icmp_ge (tgt := 44) (q := 34) dX2_stateIn_31 (by decide) rfl (fun hc => absurd hc (nI_ge (b := n) (a := e) (by omega) (by omega))) (fun _ => ?_)
          first | refine aw_aload_n (i := 0) (q := 35) dX2_stateIn_34 rfl rfl rfl ?_ | refine aw_aloadN_n (i := 0) (q := 35) dX2_stateIn_34 rfl rfl rfl ?_ | refine aw_aloadQ_n (i := 0) (q := 35) dX2_stateIn_34 rfl rfl rfl ?_
          refine aw_callV (q := 38) dX2_stateIn_35 (C2_passDay hT (tDays_inv hI.1 e)) cv_X2_155_2 (by assumption) rfl rfl (by decide) (by decide) (by first | exact Nat.le_of_ble_eq_true rfl | simp [zcat_rf, Value.category]) rfl (fun v35 μ2 hp => ?_)
          obtain ⟨rfl, ⟨f2, hT2⟩, hk2⟩ := hp
          rw [tDays_step, setK_comm _ _ _ (by decide : (1 : Nat) ≠ 8), setK_twice, setK_twice] at hT2
          refine aw_iinc (q := 41) dX2_stateIn_38 rfl (by first | exact nI_1 _ | rfl) (by decide) rfl ?_
          refine aw_goto (tgt := 29) dX2_stateIn_41 (by decide) ?_
          exact aw_locals (by exact ⟨rfl, rfl, rfl, rfl, trivial⟩) (ih (e + 1) (by omega) μ2 _ f2 hT2 (hk.tr hk2))
      exact aw_locals (by exact ⟨rfl, rfl, rfl, rfl, trivial⟩) (loop n 0 (by omega) μ1 (setK K 2 f 8) (setK K 2 f 1) (by show zTP G μ1 m lam (setK (setK (setK K 2 f) 8 (setK K 2 f 8)) 1 (setK K 2 f 1)) P; rw [setK_self, setK_self]; exact hT) hk)
    · refine aw_bipush (v := (-2)) (q := 22) dX2_stateIn_20 rfl rfl ?_
      exact aw_ireturn dX2_stateIn_22 rfl (by first | rfl | exact zB_nar _) (tAsk.same hS (by rw [tStateC, if_pos gs, if_neg (zB_0 ha)]))
  · refine aw_iconst (v := (-1)) (q := 9) dX2_stateIn_8 rfl rfl ?_
    exact aw_ireturn dX2_stateIn_9 rfl (by first | rfl | exact zB_nar _) (tAsk.same hS (by rw [tStateC, if_neg (zB_0 hs)]))
theorem C2_nextFree {d s : Int32} (hT : zTP G μ m lam K P) (hI : tPI P) : Meets G 5 MX2_nextFree [.ref m, .int d, .int s] μ (zPure (.int (tNextC P d s)) μ) 0 0 := by
  have hm := hT.m
  have h1 := hT.a1
  refine meets_of (by decide +kernel) (Nat.le_of_ble_eq_true rfl) ?_
  refine aw_iload_n (i := 1) (q := 1) dX2_nextFree_0 rfl rfl rfl ?_
  first | refine aw_aload_n (i := 0) (q := 2) dX2_nextFree_1 rfl rfl rfl ?_ | refine aw_aloadN_n (i := 0) (q := 2) dX2_nextFree_1 rfl rfl rfl ?_ | refine aw_aloadQ_n (i := 0) (q := 2) dX2_nextFree_1 rfl rfl rfl ?_
  refine aw_getfield (q := 5) dX2_nextFree_2 gf_X2_7_2 (by assumption) rfl rfl ?_
  refine aw_bipush (v := 6) (q := 7) dX2_nextFree_5 rfl rfl ?_
  refine aw_iald (q := 8) (v := P 0 0 6) (6) dX2_nextFree_7 (by assumption) (by first | assumption | (simp only [← nI_add, ← pk_mul]; rfl) | rfl) (by omega) (by omega) (hT.2.1.g (by omega)) rfl ?_
  first | refine aw_aload_n (i := 0) (q := 9) dX2_nextFree_8 rfl rfl rfl ?_ | refine aw_aloadN_n (i := 0) (q := 9) dX2_nextFree_8 rfl rfl rfl ?_ | refine aw_aloadQ_n (i := 0) (q := 9) dX2_nextFree_8 rfl rfl rfl ?_
  refine aw_getfield (q := 12) dX2_nextFree_9 gf_X2_7_2 (by assumption) rfl rfl ?_
  refine aw_bipush (v := 6) (q := 14) dX2_nextFree_12 rfl rfl ?_
  refine aw_iald (q := 15) (v := P 0 0 6) (6) dX2_nextFree_14 (by assumption) (by first | assumption | (simp only [← nI_add, ← pk_mul]; rfl) | rfl) (by omega) (by omega) (hT.2.1.g (by omega)) rfl ?_
  refine aw_bipush (v := 60) (q := 17) dX2_nextFree_15 rfl rfl ?_
  refine aw_iadd (q := 18) dX2_nextFree_17 rfl ?_
  refine aw_callS (q := 21) dX2_nextFree_18 (C2_in) cs_X2_49 rfl rfl (by decide) (by decide) (by first | exact Nat.le_of_ble_eq_true rfl | simp [zcat_rf, Value.category]) rfl (zpk ?_)
  refine aw_if_eq (tgt := 33) (q := 24) dX2_nextFree_21 (by decide) rfl (fun ha => ?_) (fun ha => ?_)
  · refine aw_bipush (v := (-2)) (q := 35) dX2_nextFree_33 rfl rfl ?_
    exact aw_ireturn dX2_nextFree_35 rfl (by first | rfl | exact zB_nar _) (by refine ⟨?_, rfl⟩; rw [tNextC, if_neg (fun h => zB_0 ha h.1)])
  · refine aw_iload_n (i := 2) (q := 25) dX2_nextFree_24 rfl rfl rfl ?_
    refine aw_iconst (v := 0) (q := 26) dX2_nextFree_25 rfl rfl ?_
    refine aw_iconst (v := 5) (q := 27) dX2_nextFree_26 rfl rfl ?_
    refine aw_callS (q := 30) dX2_nextFree_27 (C2_in) cs_X2_49 rfl rfl (by decide) (by decide) (by first | exact Nat.le_of_ble_eq_true rfl | simp [zcat_rf, Value.category]) rfl (zpk ?_)
    refine aw_if_ne (tgt := 36) (q := 33) dX2_nextFree_30 (by decide) rfl (fun hb => ?_) (fun hb => ?_)
    · skip
      obtain ⟨t, ht, ht2⟩ := hI.2.2.2.1
      obtain ⟨dd, hd1, hd2, rfl⟩ := zOf (A := t) (B := t + 60) ht2 (by rw [ht2]; exact nI_add t 60) (by omega) (by omega) (zB_1 ha)
      obtain ⟨ss, hs1, hs2, rfl⟩ := zOf (A := 0) (B := 5) rfl rfl (by omega) (by omega) (zB_1 hb)
      obtain ⟨f1, f2, f3, f4⟩ := tFirst_spec hI.2.1 (t := 6 * dd + ss) (by omega)
      first | refine aw_aload_n (i := 0) (q := 37) dX2_nextFree_36 rfl rfl rfl ?_ | refine aw_aloadN_n (i := 0) (q := 37) dX2_nextFree_36 rfl rfl rfl ?_ | refine aw_aloadQ_n (i := 0) (q := 37) dX2_nextFree_36 rfl rfl rfl ?_
      refine aw_bipush (v := 6) (q := 39) dX2_nextFree_37 rfl rfl ?_
      refine aw_iload_n (i := 1) (q := 40) dX2_nextFree_39 rfl rfl rfl ?_
      refine aw_imul (q := 41) dX2_nextFree_40 rfl ?_
      refine aw_iload_n (i := 2) (q := 42) dX2_nextFree_41 rfl rfl rfl ?_
      refine aw_iadd (q := 43) dX2_nextFree_42 rfl ?_
      refine aw_callV (q := 46) dX2_nextFree_43 (C2_firstFree (t := 6 * dd + ss) (t' := tFirst P (6 * dd + ss)) hT (by rw [← nI_add, ← pk_mul]; rfl) (by omega) f1 f3 f4) cv_X2_121_2 (by assumption) rfl rfl (by decide) (by decide) (by first | exact Nat.le_of_ble_eq_true rfl | simp [zcat_rf, Value.category]) rfl (zpk ?_)
      exact aw_ireturn dX2_nextFree_46 rfl (by first | rfl | exact zB_nar _) (by refine ⟨?_, rfl⟩; rw [tNextC, if_pos ⟨zB_1 ha, zB_1 hb⟩, nI_clamp (by omega), nI_clamp (by omega)])
    · refine aw_bipush (v := (-2)) (q := 35) dX2_nextFree_33 rfl rfl ?_
      exact aw_ireturn dX2_nextFree_35 rfl (by first | rfl | exact zB_nar _) (by refine ⟨?_, rfl⟩; rw [tNextC, if_neg (fun h => zB_0 hb h.2)])
theorem C2_wouldDisplace {d s n w : Int32} (hS : zTS G μ m lam K P R) (hI : tPI P) : Meets G 7 MX2_wouldDisplace [.ref m, .int d, .int s, .int n, .int w] μ (tAsk G μ m lam P R (tWouldC P d s n w)) 0 0 := by
  have hm := hS.1.m
  obtain ⟨hn, hN⟩ := hS.1.2.2.e
  refine meets_of (by decide +kernel) (Nat.le_of_ble_eq_true rfl) ?_
  first | refine aw_aload_n (i := 0) (q := 1) dX2_wouldDisplace_0 rfl rfl rfl ?_ | refine aw_aloadN_n (i := 0) (q := 1) dX2_wouldDisplace_0 rfl rfl rfl ?_ | refine aw_aloadQ_n (i := 0) (q := 1) dX2_wouldDisplace_0 rfl rfl rfl ?_
  refine aw_iload_n (i := 1) (q := 2) dX2_wouldDisplace_1 rfl rfl rfl ?_
  refine aw_iload_n (i := 2) (q := 3) dX2_wouldDisplace_2 rfl rfl rfl ?_
  refine aw_iload_n (i := 3) (q := 4) dX2_wouldDisplace_3 rfl rfl rfl ?_
  refine aw_callV (q := 7) dX2_wouldDisplace_4 (C2_barOfEvent hS.1) cv_X2_133_2 (by assumption) rfl rfl (by decide) (by decide) (by first | exact Nat.le_of_ble_eq_true rfl | simp [zcat_rf, Value.category]) rfl (zpk ?_)
  refine aw_istore (q := 9) dX2_wouldDisplace_7 (by decide) rfl ?_
  refine aw_iload (q := 11) dX2_wouldDisplace_9 rfl rfl ?_
  refine aw_if_lt (tgt := 24) (q := 14) dX2_wouldDisplace_11 (by decide) rfl (fun ha => ?_) (fun ha => ?_)
  · refine aw_iload (q := 26) dX2_wouldDisplace_24 rfl rfl ?_
    refine aw_if_ge (tgt := 34) (q := 29) dX2_wouldDisplace_26 (by decide) rfl (fun hc => absurd hc (Int32.not_le.mpr ha)) (fun _ => ?_)
    refine aw_iload (q := 31) dX2_wouldDisplace_29 rfl rfl ?_
    refine aw_goto (tgt := 36) dX2_wouldDisplace_31 (by decide) ?_
    exact aw_ireturn dX2_wouldDisplace_36 rfl (by first | rfl | exact zB_nar _) (tAsk.same hS (by rw [tWouldC, if_pos ha]))
  · refine aw_iload (q := 16) dX2_wouldDisplace_14 rfl rfl ?_
    refine aw_iconst (v := 0) (q := 17) dX2_wouldDisplace_16 rfl rfl ?_
    refine aw_iconst (v := 3) (q := 18) dX2_wouldDisplace_17 rfl rfl ?_
    refine aw_callS (q := 21) dX2_wouldDisplace_18 (C2_in) cs_X2_49 rfl rfl (by decide) (by decide) (by first | exact Nat.le_of_ble_eq_true rfl | simp [zcat_rf, Value.category]) rfl (zpk ?_)
    refine aw_if_ne (tgt := 37) (q := 24) dX2_wouldDisplace_21 (by decide) rfl (fun hw => ?_) (fun hw => ?_)
    · skip
      have hbar : ¬ tBar P d s n < 0 := ha
      obtain ⟨mv, hmv, hmv2⟩ := hI.2.2.1
      obtain ⟨t, ht, ht2⟩ := hI.2.2.2.1
      have hg : P 0 0 6 ≤ d ∧ d ≤ P 0 0 6 + 60 ∧ 0 ≤ s ∧ s ≤ 5 ∧ 1 ≤ n ∧ n ≤ 6 ∧ s + n ≤ 6 := by
        refine Decidable.of_not_not (fun h => hbar ?_)
        rw [tBar, if_neg h]
        decide
      have hE : pcn P 11 < 20 := by
        have h20 : P 0 0 11 ≠ 20 := fun e => hbar (by rw [tBar, if_pos hg, if_pos e]; decide)
        have : pcn P 11 ≠ 20 := fun e => h20 (by rw [hn, e]; rfl)
        omega
      obtain ⟨g1, g2, g3, g4, g5, g6, g7⟩ := hg
      obtain ⟨dd, hd1, hd2, rfl⟩ := zOf (A := t) (B := t + 60) ht2 (by rw [ht2]; exact nI_add t 60) (by omega) (by omega) ⟨g1, g2⟩
      obtain ⟨ss, hs1, hs2, rfl⟩ := zOf (A := 0) (B := 5) rfl rfl (by omega) (by omega) ⟨g3, g4⟩
      obtain ⟨nn, hn1, hn2, rfl⟩ := zOf (A := 1) (B := 6) rfl rfl (by omega) (by omega) ⟨g5, g6⟩
      obtain ⟨c, hc, rfl⟩ := tIx (v := 4) (n := 4) rfl (by omega) (zB_1 hw)
      rw [nI_add] at g7
      have g8 := (nI_leI (a := ss + nn) (b := 6) (by omega) (by omega)).mp g7
      have e0 : tWouldC P (nI dd) (nI ss) (nI nn) (nI c) = (tTell P tZ (nI dd) ss nn).2 c := by rw [tWouldC, if_neg hbar, if_pos (zB_1 hw), nI_clamp (by omega), nI_clamp (by omega), nI_clamp (by omega)]
      first | refine aw_aload_n (i := 0) (q := 38) dX2_wouldDisplace_37 rfl rfl rfl ?_ | refine aw_aloadN_n (i := 0) (q := 38) dX2_wouldDisplace_37 rfl rfl rfl ?_ | refine aw_aloadQ_n (i := 0) (q := 38) dX2_wouldDisplace_37 rfl rfl rfl ?_
      refine aw_callV (q := 41) dX2_wouldDisplace_38 (C2_keep hS.1) cv_X2_170_2 (by assumption) rfl rfl (by decide) (by decide) (by first | exact Nat.le_of_ble_eq_true rfl | simp [zcat_rf, Value.category]) rfl (fun v38 μ1 hp => ?_)
      obtain ⟨rfl, ⟨f, hf, hT⟩, hk⟩ := hp
      have hm := hT.m
      first | refine aw_aload_n (i := 0) (q := 42) dX2_wouldDisplace_41 rfl rfl rfl ?_ | refine aw_aloadN_n (i := 0) (q := 42) dX2_wouldDisplace_41 rfl rfl rfl ?_ | refine aw_aloadQ_n (i := 0) (q := 42) dX2_wouldDisplace_41 rfl rfl rfl ?_
      refine aw_iload_n (i := 1) (q := 43) dX2_wouldDisplace_42 rfl rfl rfl ?_
      refine aw_iload_n (i := 2) (q := 44) dX2_wouldDisplace_43 rfl rfl rfl ?_
      refine aw_iload_n (i := 3) (q := 45) dX2_wouldDisplace_44 rfl rfl rfl ?_
      refine aw_callV (q := 48) dX2_wouldDisplace_45 (C2_tellEvent (slot := ss) (many := nn) hT rfl rfl rfl (by omega) g8 hI.1.2.1 hI.2.1 hE hmv2 hmv) cv_X2_137_2 (by assumption) rfl rfl (by decide) (by decide) (by first | exact Nat.le_of_ble_eq_true rfl | simp [zcat_rf, Value.category]) rfl (fun v45 μ2 hp => ?_)
      obtain ⟨rfl, ⟨f2, hT2⟩, hk2⟩ := hp
      have hm := hT2.m
      first | refine aw_aload_n (i := 0) (q := 49) dX2_wouldDisplace_48 rfl rfl rfl ?_ | refine aw_aloadN_n (i := 0) (q := 49) dX2_wouldDisplace_48 rfl rfl rfl ?_ | refine aw_aloadQ_n (i := 0) (q := 49) dX2_wouldDisplace_48 rfl rfl rfl ?_
      refine aw_callV (q := 52) dX2_wouldDisplace_49 (C2_comeBack (Q := P) hT2 (hS.1.2.1.congr hf) hS.1.2.2) cv_X2_173_2 (by assumption) rfl rfl (by decide) (by decide) (by first | exact Nat.le_of_ble_eq_true rfl | simp [zcat_rf, Value.category]) rfl (fun v49 μ3 hp => ?_)
      obtain ⟨rfl, ⟨f3, hT3⟩, hk3⟩ := hp
      have hm := hT3.m
      have h8 := hT3.a8
      obtain ⟨t1, t2⟩ := tTell_D (P := P) (K 8) (day := nI dd) (slot := ss) (many := nn)
      first | refine aw_aload_n (i := 0) (q := 53) dX2_wouldDisplace_52 rfl rfl rfl ?_ | refine aw_aloadN_n (i := 0) (q := 53) dX2_wouldDisplace_52 rfl rfl rfl ?_ | refine aw_aloadQ_n (i := 0) (q := 53) dX2_wouldDisplace_52 rfl rfl rfl ?_
      refine aw_getfield (q := 56) dX2_wouldDisplace_53 gf_X2_32_2 (by assumption) rfl rfl ?_
      refine aw_iload (q := 58) dX2_wouldDisplace_56 rfl rfl ?_
      refine aw_iald (q := 59) (v := (tTell P tZ (nI dd) ss nn).2 c) (c) dX2_wouldDisplace_58 (by assumption) (by first | assumption | (simp only [← nI_add, ← pk_mul]; rfl) | rfl) (by omega) (by omega) (t2 c (by omega)) rfl ?_
      exact aw_ireturn dX2_wouldDisplace_59 rfl (by first | rfl | exact zB_nar _) (⟨by rw [e0], ⟨_, hT3, hS.2.congr (fun _ _ => rfl) rfl rfl rfl rfl⟩, (hk.tr hk2).tr hk3⟩)
    · refine aw_iload (q := 26) dX2_wouldDisplace_24 rfl rfl ?_
      refine aw_if_ge (tgt := 34) (q := 29) dX2_wouldDisplace_26 (by decide) rfl (fun _ => ?_) (fun hc => absurd (Int32.not_lt.mp ha) hc)
      refine aw_bipush (v := (-2)) (q := 36) dX2_wouldDisplace_34 rfl rfl ?_
      exact aw_ireturn dX2_wouldDisplace_36 rfl (by first | rfl | exact zB_nar _) (tAsk.same hS (by rw [tWouldC, if_neg ha, if_neg (zB_0 hw)]))
end ZTW19
