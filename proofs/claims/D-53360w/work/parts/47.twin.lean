/-! THE TWIN, part 7: displace, tellEvent, barOfEvent -/
set_option maxRecDepth 100000
section ZTW6
variable {G : zG} {μ : zM} {m : Nat} {lam : Nat → Nat} {K : Nat → Nat → Int32} {P : zP}
theorem C2_displace {s : Nat} {x : Int32} (hT : zTP G μ m lam K P) (hx : x = nI s) (hs : s < pcn P 9) (hB : tBkOk P) (hI : tTimes P) : Meets G 5 MX2_displace [.ref m, .int x] μ (tPost8 G μ m lam K (tDisplace P (K 8) s).1 (tDisplace P (K 8) s).2 none) 0 0 := by
  subst hx
  have hsN := hT.2.2.s.2
  obtain ⟨⟨d, hd, ed⟩, ⟨sl, hsl, es⟩⟩ := hI.1 s hs
  have cd : (P 3 s 1).toNatClampNeg = d := by rw [ed]; exact nI_clamp (by omega)
  have cs : (P 3 s 2).toNatClampNeg = sl := by rw [es]; exact nI_clamp (by omega)
  obtain ⟨to, hto⟩ : ∃ to, to = tDispTo P s := ⟨_, rfl⟩
  have hto2 : to = tFirst P (6 * d + sl + 1) := by rw [hto, tDispTo, cd, cs]
  obtain ⟨f1, f2, f3, f4⟩ := tFirst_spec hI (t := 6 * d + sl + 1) (by omega)
  rw [← hto2] at f1 f2 f3 f4
  have hm := hT.m
  have h1 := hT.a1
  have h8 := hT.a8
  refine meets_of (by decide +kernel) (Nat.le_of_ble_eq_true rfl) ?_
  first | refine aw_aload_n (i := 0) (q := 1) dX2_displace_0 rfl rfl rfl ?_ | refine aw_aloadN_n (i := 0) (q := 1) dX2_displace_0 rfl rfl rfl ?_ | refine aw_aloadQ_n (i := 0) (q := 1) dX2_displace_0 rfl rfl rfl ?_
  refine aw_iload_n (i := 1) (q := 2) dX2_displace_1 rfl rfl rfl ?_
  refine aw_iconst (v := 1) (q := 3) dX2_displace_2 rfl rfl ?_
  refine aw_callV (q := 6) dX2_displace_3 (C2_ofShow (s := s) (c := 1) hT rfl rfl (by omega) (by omega)) cv_X2_75_2 (by assumption) rfl rfl (by decide) (by decide) (by first | exact Nat.le_of_ble_eq_true rfl | simp [zcat_rf, Value.category]) rfl (zpk ?_)
  rw [ed]
  refine aw_istore_n (i := 2) (q := 7) dX2_displace_6 rfl (by decide) rfl ?_
  first | refine aw_aload_n (i := 0) (q := 8) dX2_displace_7 rfl rfl rfl ?_ | refine aw_aloadN_n (i := 0) (q := 8) dX2_displace_7 rfl rfl rfl ?_ | refine aw_aloadQ_n (i := 0) (q := 8) dX2_displace_7 rfl rfl rfl ?_
  refine aw_bipush (v := 6) (q := 10) dX2_displace_8 rfl rfl ?_
  refine aw_iload_n (i := 2) (q := 11) dX2_displace_10 rfl rfl rfl ?_
  refine aw_imul (q := 12) dX2_displace_11 rfl ?_
  first | refine aw_aload_n (i := 0) (q := 13) dX2_displace_12 rfl rfl rfl ?_ | refine aw_aloadN_n (i := 0) (q := 13) dX2_displace_12 rfl rfl rfl ?_ | refine aw_aloadQ_n (i := 0) (q := 13) dX2_displace_12 rfl rfl rfl ?_
  refine aw_iload_n (i := 1) (q := 14) dX2_displace_13 rfl rfl rfl ?_
  refine aw_iconst (v := 2) (q := 15) dX2_displace_14 rfl rfl ?_
  refine aw_callV (q := 18) dX2_displace_15 (C2_ofShow (s := s) (c := 2) hT rfl rfl (by omega) (by omega)) cv_X2_75_2 (by assumption) rfl rfl (by decide) (by decide) (by first | exact Nat.le_of_ble_eq_true rfl | simp [zcat_rf, Value.category]) rfl (zpk ?_)
  rw [es]
  refine aw_iadd (q := 19) dX2_displace_18 rfl ?_
  refine aw_iconst (v := 1) (q := 20) dX2_displace_19 rfl rfl ?_
  refine aw_iadd (q := 21) dX2_displace_20 rfl ?_
  refine aw_callV (q := 24) dX2_displace_21 (C2_firstFree (t := 6 * d + sl + 1) (t' := to) hT (by simp only [← nI_add, ← pk_mul]; rfl) (by omega) f1 f3 f4) cv_X2_121_2 (by assumption) rfl rfl (by decide) (by decide) (by first | exact Nat.le_of_ble_eq_true rfl | simp [zcat_rf, Value.category]) rfl (zpk ?_)
  refine aw_istore_n (i := 3) (q := 25) dX2_displace_24 rfl (by decide) rfl ?_
  refine aw_iload_n (i := 3) (q := 26) dX2_displace_25 rfl rfl rfl ?_
  refine aw_bipush (v := 6) (q := 28) dX2_displace_26 rfl rfl ?_
  refine aw_idiv (q := 29) dX2_displace_28 (by decide) rfl ?_
  refine aw_iload_n (i := 2) (q := 30) dX2_displace_29 rfl rfl rfl ?_
  first | refine aw_aload_n (i := 0) (q := 31) dX2_displace_30 rfl rfl rfl ?_ | refine aw_aloadN_n (i := 0) (q := 31) dX2_displace_30 rfl rfl rfl ?_ | refine aw_aloadQ_n (i := 0) (q := 31) dX2_displace_30 rfl rfl rfl ?_
  refine aw_getfield (q := 34) dX2_displace_31 gf_X2_7_2 (by assumption) rfl rfl ?_
  refine aw_iconst (v := 0) (q := 35) dX2_displace_34 rfl rfl ?_
  rw [zdiv6 (by omega)]
  refine aw_iald (q := 36) (v := P 0 0 0) (0) dX2_displace_35 (by assumption) (by first | assumption | (simp only [← nI_add, ← pk_mul]; rfl) | rfl) (by omega) (by omega) (hT.2.1.g (by omega)) rfl ?_
  refine aw_iadd (q := 37) dX2_displace_36 rfl ?_
  have gt : tGoes P s = decide (¬ nI d + P 0 0 0 < nI (to / 6)) := by rw [tGoes, ed, hto]
  refine aw_icmp_gt (tgt := 44) (q := 40) dX2_displace_37 (by decide) rfl (fun hg => ?_) (fun hg => ?_)
  · skip
    have hg' : tGoes P s = false := by rw [gt]; simp [hg]
    have eD : tDisplace P (K 8) s = (updP (tDispN P (upd (K 8) 1 (K 8 1 + 1)) s false (nI d) (nI (to / 6)) (pcn P 10)).1 3 s 3 4, (tDispN P (upd (K 8) 1 (K 8 1 + 1)) s false (nI d) (nI (to / 6)) (pcn P 10)).2) := by
      rw [tDisplace, if_neg (by rw [hg']; decide), ed, ← hto]
    rw [eD]
    refine aw_iconst (v := 0) (q := 45) dX2_displace_44 rfl rfl ?_
    refine aw_istore (q := 47) dX2_displace_45 (by decide) rfl ?_
    first | refine aw_aload_n (i := 0) (q := 48) dX2_displace_47 rfl rfl rfl ?_ | refine aw_aloadN_n (i := 0) (q := 48) dX2_displace_47 rfl rfl rfl ?_ | refine aw_aloadQ_n (i := 0) (q := 48) dX2_displace_47 rfl rfl rfl ?_
    refine aw_getfield (q := 51) dX2_displace_48 gf_X2_32_2 (by assumption) rfl rfl ?_
    refine aw_iload (q := 53) dX2_displace_51 rfl rfl ?_
    refine aw_if_eq (tgt := 60) (q := 56) dX2_displace_53 (by decide) rfl (fun _ => ?_) (fun hc => absurd (rfl) hc)
    refine aw_iconst (v := 1) (q := 61) dX2_displace_60 rfl rfl ?_
    refine aw_dup2 (q := 62) dX2_displace_61 (by first | rfl | exact zcat_rf _) (by first | rfl | exact zcat_rf _) rfl ?_
    refine aw_iald (q := 63) (1) dX2_displace_62 (by assumption) (by first | assumption | (simp only [← nI_add, ← pk_mul]; rfl) | rfl) (by omega) (by omega) rfl rfl ?_
    refine aw_iconst (v := 1) (q := 64) dX2_displace_63 rfl rfl ?_
    refine aw_iadd (q := 65) dX2_displace_64 rfl ?_
    refine aw_iast (q := 66) (1) dX2_displace_65 h8 (by first | assumption | simp) (by first | assumption | (simp only [← nI_add, ← pk_mul]; rfl) | rfl) (by omega) (by omega) rfl (fun μ1 hg_μ1 => ?_)
    have h8 : μ1 _ = some _ := hg_μ1 ▸ updM_eq _ _ _
    obtain ⟨hW1, hk1⟩ := hT.1.st8 hg_μ1
    have hT1 := hT.other hW1 (setK_ne (by decide))
    refine aw_iconst (v := 0) (q := 67) dX2_displace_66 rfl rfl ?_
    refine aw_istore (q := 69) dX2_displace_67 (by decide) rfl ?_
    have fin : ∀ (μ2 : zM) (f : Nat → Int32), zTP G μ2 m lam (setK (setK K 8 (tDispN P (upd (K 8) 1 (K 8 1 + 1)) s false (nI d) (nI (to / 6)) (pcn P 10)).2) 1 f) (tDispN P (upd (K 8) 1 (K 8 1 + 1)) s false (nI d) (nI (to / 6)) (pcn P 10)).1 → zKp tTw μ1 μ2 → AW G 5 MX2_displace (tPost8 G μ m lam K (updP (tDispN P (upd (K 8) 1 (K 8 1 + 1)) s false (nI d) (nI (to / 6)) (pcn P 10)).1 3 s 3 4) (tDispN P (upd (K 8) 1 (K 8 1 + 1)) s false (nI d) (nI (to / 6)) (pcn P 10)).2 none) 0 0 145 [(0, .ref m), (1, .int (nI s)), (2, .int (nI d)), (3, .int (nI to)), (4, .int (zB (false = true)))] [] μ2 := by
      intro μ2 f hT hk
      have hm := hT.m
      have h1 := hT.a1
      refine aw_bipush (v := 100) (q := 147) dX2_displace_145 rfl rfl ?_
      refine aw_bipush (v := 7) (q := 149) dX2_displace_147 rfl rfl ?_
      refine aw_iload_n (i := 1) (q := 150) dX2_displace_149 rfl rfl rfl ?_
      refine aw_imul (q := 151) dX2_displace_150 rfl ?_
      refine aw_iadd (q := 152) dX2_displace_151 rfl ?_
      refine aw_istore (q := 154) dX2_displace_152 (by decide) rfl ?_
      refine aw_iload (q := 156) dX2_displace_154 rfl rfl ?_
      refine aw_if_eq (tgt := 202) (q := 159) dX2_displace_156 (by decide) rfl (fun _ => ?_) (fun hc => absurd (rfl) hc)
      first | refine aw_aload_n (i := 0) (q := 203) dX2_displace_202 rfl rfl rfl ?_ | refine aw_aloadN_n (i := 0) (q := 203) dX2_displace_202 rfl rfl rfl ?_ | refine aw_aloadQ_n (i := 0) (q := 203) dX2_displace_202 rfl rfl rfl ?_
      refine aw_getfield (q := 206) dX2_displace_203 gf_X2_7_2 (by assumption) rfl rfl ?_
      refine aw_iload (q := 208) dX2_displace_206 rfl rfl ?_
      refine aw_iconst (v := 3) (q := 209) dX2_displace_208 rfl rfl ?_
      refine aw_iadd (q := 210) dX2_displace_209 rfl ?_
      refine aw_iconst (v := 4) (q := 211) dX2_displace_210 rfl rfl ?_
      refine aw_iast (q := 212) (100 + 7 * s + 3) dX2_displace_211 h1 (by first | assumption | simp) (by first | assumption | (simp only [← nI_add, ← pk_mul]; rfl) | rfl) (by omega) (by omega) rfl (fun μ3 hg_μ3 => ?_)
      have h1 : μ3 _ = some _ := hg_μ3 ▸ updM_eq _ _ _
      obtain ⟨hT3, hk3⟩ := hT.st (s := 3) (i := s) (c := 3) (by omega) (show s < 60 by omega) (show 3 < 7 by omega) rfl hg_μ3 (hT.2.2.upd (by omega))
      rw [setK_twice] at hT3
      exact aw_return dX2_displace_212 rfl (⟨rfl, ⟨_, hT3⟩, (hk1.tr hk).tr hk3⟩)
    exact aw_locals (by exact ⟨rfl, rfl, rfl, rfl, rfl, rfl, trivial⟩) (disp_loop (goes := false) (by omega) hB (by omega) fin (pcn P 10) 0 (by omega) μ1 (setK K 8 (upd (K 8) 1 (K 8 1 + 1)) 1) (by show zTP G μ1 m lam (setK (setK K 8 (upd (K 8) 1 (K 8 1 + 1))) 1 _) P; rw [setK_self]; exact hT1) zKp.rf)
  · skip
    have hg' : tGoes P s = true := by rw [gt]; simp [hg]
    have eD : tDisplace P (K 8) s = (updP (updP (updP (tDispN P (upd (K 8) 0 (K 8 0 + 1)) s true (nI d) (nI (to / 6)) (pcn P 10)).1 3 s 1 (nI (to / 6))) 3 s 2 (nI (to % 6))) 3 s 6 (P 3 s 6 + 1), (tDispN P (upd (K 8) 0 (K 8 0 + 1)) s true (nI d) (nI (to / 6)) (pcn P 10)).2) := by
      rw [tDisplace, if_pos hg', ed, ← hto]
    rw [eD]
    refine aw_iconst (v := 1) (q := 41) dX2_displace_40 rfl rfl ?_
    refine aw_goto (tgt := 45) dX2_displace_41 (by decide) ?_
    refine aw_istore (q := 47) dX2_displace_45 (by decide) rfl ?_
    first | refine aw_aload_n (i := 0) (q := 48) dX2_displace_47 rfl rfl rfl ?_ | refine aw_aloadN_n (i := 0) (q := 48) dX2_displace_47 rfl rfl rfl ?_ | refine aw_aloadQ_n (i := 0) (q := 48) dX2_displace_47 rfl rfl rfl ?_
    refine aw_getfield (q := 51) dX2_displace_48 gf_X2_32_2 (by assumption) rfl rfl ?_
    refine aw_iload (q := 53) dX2_displace_51 rfl rfl ?_
    refine aw_if_eq (tgt := 60) (q := 56) dX2_displace_53 (by decide) rfl (fun hc => absurd hc ((by decide))) (fun _ => ?_)
    refine aw_iconst (v := 0) (q := 57) dX2_displace_56 rfl rfl ?_
    refine aw_goto (tgt := 61) dX2_displace_57 (by decide) ?_
    refine aw_dup2 (q := 62) dX2_displace_61 (by first | rfl | exact zcat_rf _) (by first | rfl | exact zcat_rf _) rfl ?_
    refine aw_iald (q := 63) (0) dX2_displace_62 (by assumption) (by first | assumption | (simp only [← nI_add, ← pk_mul]; rfl) | rfl) (by omega) (by omega) rfl rfl ?_
    refine aw_iconst (v := 1) (q := 64) dX2_displace_63 rfl rfl ?_
    refine aw_iadd (q := 65) dX2_displace_64 rfl ?_
    refine aw_iast (q := 66) (0) dX2_displace_65 h8 (by first | assumption | simp) (by first | assumption | (simp only [← nI_add, ← pk_mul]; rfl) | rfl) (by omega) (by omega) rfl (fun μ1 hg_μ1 => ?_)
    have h8 : μ1 _ = some _ := hg_μ1 ▸ updM_eq _ _ _
    obtain ⟨hW1, hk1⟩ := hT.1.st8 hg_μ1
    have hT1 := hT.other hW1 (setK_ne (by decide))
    refine aw_iconst (v := 0) (q := 67) dX2_displace_66 rfl rfl ?_
    refine aw_istore (q := 69) dX2_displace_67 (by decide) rfl ?_
    have fin : ∀ (μ2 : zM) (f : Nat → Int32), zTP G μ2 m lam (setK (setK K 8 (tDispN P (upd (K 8) 0 (K 8 0 + 1)) s true (nI d) (nI (to / 6)) (pcn P 10)).2) 1 f) (tDispN P (upd (K 8) 0 (K 8 0 + 1)) s true (nI d) (nI (to / 6)) (pcn P 10)).1 → zKp tTw μ1 μ2 → AW G 5 MX2_displace (tPost8 G μ m lam K (updP (updP (updP (tDispN P (upd (K 8) 0 (K 8 0 + 1)) s true (nI d) (nI (to / 6)) (pcn P 10)).1 3 s 1 (nI (to / 6))) 3 s 2 (nI (to % 6))) 3 s 6 (P 3 s 6 + 1)) (tDispN P (upd (K 8) 0 (K 8 0 + 1)) s true (nI d) (nI (to / 6)) (pcn P 10)).2 none) 0 0 145 [(0, .ref m), (1, .int (nI s)), (2, .int (nI d)), (3, .int (nI to)), (4, .int (zB (true = true)))] [] μ2 := by
      intro μ2 f hT hk
      have hm := hT.m
      have h1 := hT.a1
      have sm := tDispN_same (P := P) (D := upd (K 8) 0 (K 8 0 + 1)) (s := s) (goes := true) (day := nI d) (to := nI (to / 6)) (pcn P 10)
      refine aw_bipush (v := 100) (q := 147) dX2_displace_145 rfl rfl ?_
      refine aw_bipush (v := 7) (q := 149) dX2_displace_147 rfl rfl ?_
      refine aw_iload_n (i := 1) (q := 150) dX2_displace_149 rfl rfl rfl ?_
      refine aw_imul (q := 151) dX2_displace_150 rfl ?_
      refine aw_iadd (q := 152) dX2_displace_151 rfl ?_
      refine aw_istore (q := 154) dX2_displace_152 (by decide) rfl ?_
      refine aw_iload (q := 156) dX2_displace_154 rfl rfl ?_
      refine aw_if_eq (tgt := 202) (q := 159) dX2_displace_156 (by decide) rfl (fun hc => absurd hc ((by decide))) (fun _ => ?_)
      first | refine aw_aload_n (i := 0) (q := 160) dX2_displace_159 rfl rfl rfl ?_ | refine aw_aloadN_n (i := 0) (q := 160) dX2_displace_159 rfl rfl rfl ?_ | refine aw_aloadQ_n (i := 0) (q := 160) dX2_displace_159 rfl rfl rfl ?_
      refine aw_getfield (q := 163) dX2_displace_160 gf_X2_7_2 (by assumption) rfl rfl ?_
      refine aw_iload (q := 165) dX2_displace_163 rfl rfl ?_
      refine aw_iconst (v := 1) (q := 166) dX2_displace_165 rfl rfl ?_
      refine aw_iadd (q := 167) dX2_displace_166 rfl ?_
      refine aw_iload_n (i := 3) (q := 168) dX2_displace_167 rfl rfl rfl ?_
      refine aw_bipush (v := 6) (q := 170) dX2_displace_168 rfl rfl ?_
      refine aw_idiv (q := 171) dX2_displace_170 (by decide) rfl ?_
      rw [zdiv6 (by omega)]
      refine aw_iast (q := 172) (100 + 7 * s + 1) dX2_displace_171 h1 (by first | assumption | simp) (by first | assumption | (simp only [← nI_add, ← pk_mul]; rfl) | rfl) (by omega) (by omega) rfl (fun μ3 hg_μ3 => ?_)
      have h1 : μ3 _ = some _ := hg_μ3 ▸ updM_eq _ _ _
      obtain ⟨hT3, hk3⟩ := hT.st (s := 3) (i := s) (c := 1) (by omega) (show s < 60 by omega) (show 1 < 7 by omega) rfl hg_μ3 (hT.2.2.upd (by omega))
      rw [setK_twice] at hT3
      have hm := hT3.m
      have h1 := hT3.a1
      first | refine aw_aload_n (i := 0) (q := 173) dX2_displace_172 rfl rfl rfl ?_ | refine aw_aloadN_n (i := 0) (q := 173) dX2_displace_172 rfl rfl rfl ?_ | refine aw_aloadQ_n (i := 0) (q := 173) dX2_displace_172 rfl rfl rfl ?_
      refine aw_getfield (q := 176) dX2_displace_173 gf_X2_7_2 (by assumption) rfl rfl ?_
      refine aw_iload (q := 178) dX2_displace_176 rfl rfl ?_
      refine aw_iconst (v := 2) (q := 179) dX2_displace_178 rfl rfl ?_
      refine aw_iadd (q := 180) dX2_displace_179 rfl ?_
      refine aw_iload_n (i := 3) (q := 181) dX2_displace_180 rfl rfl rfl ?_
      refine aw_bipush (v := 6) (q := 183) dX2_displace_181 rfl rfl ?_
      refine aw_irem (q := 184) dX2_displace_183 (by decide) rfl ?_
      rw [zrem6 (by omega)]
      refine aw_iast (q := 185) (100 + 7 * s + 2) dX2_displace_184 h1 (by first | assumption | simp) (by first | assumption | (simp only [← nI_add, ← pk_mul]; rfl) | rfl) (by omega) (by omega) rfl (fun μ4 hg_μ4 => ?_)
      have h1 : μ4 _ = some _ := hg_μ4 ▸ updM_eq _ _ _
      obtain ⟨hT4, hk4⟩ := hT3.st (s := 3) (i := s) (c := 2) (by omega) (show s < 60 by omega) (show 2 < 7 by omega) rfl hg_μ4 (hT3.2.2.upd (by omega))
      rw [setK_twice] at hT4
      have hm := hT4.m
      have h1 := hT4.a1
      first | refine aw_aload_n (i := 0) (q := 186) dX2_displace_185 rfl rfl rfl ?_ | refine aw_aloadN_n (i := 0) (q := 186) dX2_displace_185 rfl rfl rfl ?_ | refine aw_aloadQ_n (i := 0) (q := 186) dX2_displace_185 rfl rfl rfl ?_
      refine aw_getfield (q := 189) dX2_displace_186 gf_X2_7_2 (by assumption) rfl rfl ?_
      refine aw_iload (q := 191) dX2_displace_189 rfl rfl ?_
      refine aw_bipush (v := 6) (q := 193) dX2_displace_191 rfl rfl ?_
      refine aw_iadd (q := 194) dX2_displace_193 rfl ?_
      refine aw_dup2 (q := 195) dX2_displace_194 (by first | rfl | exact zcat_rf _) (by first | rfl | exact zcat_rf _) rfl ?_
      refine aw_iald (q := 196) (v := P 3 s 6) (100 + 7 * s + 6) dX2_displace_195 (by assumption) (by first | assumption | (simp only [← nI_add, ← pk_mul]; rfl) | rfl) (by omega) (by omega) ((hT4.2.1.sh (by omega) (by omega)).trans ((updP_ne (by omega)).trans ((updP_ne (by omega)).trans (sm 3 s 6 (by omega))))) rfl ?_
      refine aw_iconst (v := 1) (q := 197) dX2_displace_196 rfl rfl ?_
      refine aw_iadd (q := 198) dX2_displace_197 rfl ?_
      refine aw_iast (q := 199) (100 + 7 * s + 6) dX2_displace_198 h1 (by first | assumption | simp) (by first | assumption | (simp only [← nI_add, ← pk_mul]; rfl) | rfl) (by omega) (by omega) rfl (fun μ5 hg_μ5 => ?_)
      have h1 : μ5 _ = some _ := hg_μ5 ▸ updM_eq _ _ _
      obtain ⟨hT5, hk5⟩ := hT4.st (s := 3) (i := s) (c := 6) (by omega) (show s < 60 by omega) (show 6 < 7 by omega) rfl hg_μ5 (hT4.2.2.upd (by omega))
      rw [setK_twice] at hT5
      refine aw_goto (tgt := 212) dX2_displace_199 (by decide) ?_
      exact aw_return dX2_displace_212 rfl (⟨rfl, ⟨_, hT5⟩, (((hk1.tr hk).tr hk3).tr hk4).tr hk5⟩)
    exact aw_locals (by exact ⟨rfl, rfl, rfl, rfl, rfl, rfl, trivial⟩) (disp_loop (goes := true) (by omega) hB (by omega) fin (pcn P 10) 0 (by omega) μ1 (setK K 8 (upd (K 8) 0 (K 8 0 + 1)) 1) (by show zTP G μ1 m lam (setK (setK K 8 (upd (K 8) 0 (K 8 0 + 1))) 1 _) P; rw [setK_self]; exact hT1) zKp.rf)
end ZTW6
