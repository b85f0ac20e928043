/-! THE TWIN, part 16: book, giveBack, event, promise, pass -/
set_option maxRecDepth 100000
section ZTW16
variable {G : zG} {μ : zM} {m : Nat} {lam : Nat → Nat} {K : Nat → Nat → Int32} {P : zP} {R : tR}
theorem zN96 {S l : Nat} (hS : S ≤ 96) (hl : l ≤ 40) (h : 96 - nI S + nI l ≤ 96) : l ≤ S := by
  have e : (96 : Int32) - nI S = nI (96 - S) := pk_sub (a := 96) hS
  rw [e, nI_add] at h
  have := (nI_leI (a := 96 - S + l) (b := 96) (by omega) (by omega)).mp h
  omega
theorem zOf {x a b : Int32} {A B : Nat} (ha : a = nI A) (hb : b = nI B) (hB : B < 2 ^ 31) (hAB : A ≤ B) (h : a ≤ x ∧ x ≤ b) : ∃ j, A ≤ j ∧ j ≤ B ∧ x = nI j := by
  subst ha hb
  have h0 : ¬ x < 0 := Int32.not_lt.mpr (Int32.le_trans (nI_pos' (n := A) (by omega)) h.1)
  obtain ⟨j, hj, hx⟩ := nI_of h0
  subst hx
  exact ⟨j, (nI_leI (by omega) hj).mp h.1, (nI_leI hj (by omega)).mp h.2, rfl⟩
/-- the seats are given, row by row -/
theorem book_c {b s : Nat} {x3 x4 x6 : Int32} {Q : zP} {T : tT} {X : (Nat → Int32) × (Nat → Int32)} {seats : Int32} {K' : Nat → Nat → Int32} (hb : b < 80) (hcn : Q 0 0 10 = nI b) (hQ : tOk Q) (hf : tFrK K K') (hr : tRest K' R)
    (hX : T = (updP (tRows Q b 8 X.2) 0 0 10 (nI (b + 1)), R, nI b)) : ∀ n l, l < n → ∀ (μ1 : zM) (f g f1 h7 : Nat → Int32) (φ : Nat → Nat), tSeatOk f φ l → tSeatN n f g (nI l) = X → (∀ r, r < 8 → h7 r = f r) → zTP G μ1 m lam (setK (setK K' 7 h7) 1 f1) (tRows Q b 8 g) → zKp tTw μ μ1 →
    AW G 5 MX2_book (tPub G μ m lam K T) 0 0 256 [(0, .ref m), (1, .int (nI s)), (2, .int seats), (3, .int x3), (4, .int x4), (5, .int (520 + 16 * nI b)), (6, .int x6), (7, .int (nI l))] [] μ1 := by
  intro n
  induction n with
  | zero => intro l hl; omega
  | succ n ih =>
    intro l hl μ1 f g f1 h7 φ hok hn h7f hT hk
    have hm := hT.m
    have h1 := hT.a1
    have a7 : μ1 (lam 7) = some ((2, 7), aI G 8 h7) := hT.a7
    have hl40 := hok.2.1
    by_cases h0 : l = 0
    · subst h0
      have eX : X = (f, g) := by rw [← hn]; rfl
      rw [eX] at hX
      refine aw_iload (q := 258) dX2_book_256 rfl rfl ?_
      refine aw_if_le (tgt := 335) (q := 261) dX2_book_258 (by decide) rfl (fun _ => ?_) (fun hc => absurd ((by decide : ¬ (0 : Int32) < 0) |> Int32.not_lt.mp) hc)
      first | refine aw_aload_n (i := 0) (q := 336) dX2_book_335 rfl rfl rfl ?_ | refine aw_aloadN_n (i := 0) (q := 336) dX2_book_335 rfl rfl rfl ?_ | refine aw_aloadQ_n (i := 0) (q := 336) dX2_book_335 rfl rfl rfl ?_
      refine aw_getfield (q := 339) dX2_book_336 gf_X2_7_2 (by assumption) rfl rfl ?_
      refine aw_bipush (v := 10) (q := 341) dX2_book_339 rfl rfl ?_
      refine aw_dup2 (q := 342) dX2_book_341 (by first | rfl | exact zcat_rf _) (by first | rfl | exact zcat_rf _) rfl ?_
      refine aw_iald (q := 343) (v := nI b) (10) dX2_book_342 (by assumption) (by first | assumption | (simp only [← nI_add, ← pk_mul]; rfl) | rfl) (by omega) (by omega) ((hT.2.1.g (by omega)).trans ((tRows_o (by omega)).trans hcn)) rfl ?_
      refine aw_iconst (v := 1) (q := 344) dX2_book_343 rfl rfl ?_
      refine aw_iadd (q := 345) dX2_book_344 rfl ?_
      refine aw_iast (q := 346) (10) dX2_book_345 h1 (by first | assumption | simp) (by first | assumption | (simp only [← nI_add, ← pk_mul]; rfl) | rfl) (by omega) (by omega) rfl (fun μt1 hg_μt1 => ?_)
      have h1 : μt1 _ = some _ := hg_μt1 ▸ updM_eq _ _ _
      obtain ⟨fμt1, hT, hk⟩ := hT.st' hk (s := 0) (i := 0) (c := 10) (by omega) (show 0 < 1 by omega) (show 10 < 20 by omega) (by first | (simp only [tB, tW]; done) | (simp only [tB, tW]; omega)) hg_μt1 (by rw [nI_1]; exact hT.2.2.cnt (by omega) (by omega) (show _ ≤ 80 by omega))
      have hm := hT.m
      have h1 := hT.a1
      first | refine aw_aload_n (i := 0) (q := 347) dX2_book_346 rfl rfl rfl ?_ | refine aw_aloadN_n (i := 0) (q := 347) dX2_book_346 rfl rfl rfl ?_ | refine aw_aloadQ_n (i := 0) (q := 347) dX2_book_346 rfl rfl rfl ?_
      refine aw_getfield (q := 350) dX2_book_347 gf_X2_7_2 (by assumption) rfl rfl ?_
      refine aw_bipush (v := 10) (q := 352) dX2_book_350 rfl rfl ?_
      refine aw_iald (q := 353) (v := nI (b + 1)) (10) dX2_book_352 (by assumption) (by first | assumption | (simp only [← nI_add, ← pk_mul]; rfl) | rfl) (by omega) (by omega) ((hT.2.1.g (by omega)).trans (by rw [updP_eq]; exact nI_1 _)) rfl ?_
      refine aw_iconst (v := 1) (q := 354) dX2_book_353 rfl rfl ?_
      refine aw_isub (q := 355) dX2_book_354 rfl ?_
      rw [nI_pred]
      exact aw_ireturn dX2_book_355 rfl (by first | rfl | exact zB_nar _) (tPub.of hT (hr.congr (fun _ _ => rfl) rfl rfl rfl rfl) (hf.tr ⟨rfl, fun _ _ => rfl⟩) hk (by rw [hX, nI_1]))
    · obtain ⟨k, k1, k2, k3, k4, k5, hok2⟩ := hok.step (by omega)
      have hrow := tRow_lt f (nI l)
      have er : tRow h7 (nI l) = tRow f (nI l) := tRow_congr h7f
      have e7 : h7 (tRow f (nI l)) = f (tRow f (nI l)) := h7f _ hrow
      have hn2 : tSeatN n (upd f (tRow f (nI l)) (f (tRow f (nI l)) - nI k)) (upd g (tRow f (nI l)) (g (tRow f (nI l)) + nI k)) (nI (l - k)) = X := by
        rw [← hn]
        conv => rhs; unfold tSeatN
        rw [if_neg (nI_nle (by omega) (by omega)), k4, pk_sub k2]
      have rest : ∀ v : Int32, v = nI k → AW G 5 MX2_book (tPub G μ m lam K T) 0 0 293 [(0, .ref m), (1, .int (nI s)), (2, .int seats), (3, .int x3), (4, .int x4), (5, .int (520 + 16 * nI b)), (6, .int x6), (7, .int (nI l)), (8, .int (nI (tRow f (nI l))))] [.int v] μ1 := by
        intro v hv
        subst hv
        refine aw_istore (q := 295) dX2_book_293 (by decide) rfl ?_
        first | refine aw_aload_n (i := 0) (q := 296) dX2_book_295 rfl rfl rfl ?_ | refine aw_aloadN_n (i := 0) (q := 296) dX2_book_295 rfl rfl rfl ?_ | refine aw_aloadQ_n (i := 0) (q := 296) dX2_book_295 rfl rfl rfl ?_
        refine aw_getfield (q := 299) dX2_book_296 gf_X2_7_2 (by assumption) rfl rfl ?_
        refine aw_iload (q := 301) dX2_book_299 rfl rfl ?_
        refine aw_bipush (v := 8) (q := 303) dX2_book_301 rfl rfl ?_
        refine aw_iadd (q := 304) dX2_book_303 rfl ?_
        refine aw_iload (q := 306) dX2_book_304 rfl rfl ?_
        refine aw_iadd (q := 307) dX2_book_306 rfl ?_
        refine aw_dup2 (q := 308) dX2_book_307 (by first | rfl | exact zcat_rf _) (by first | rfl | exact zcat_rf _) rfl ?_
        refine aw_iald (q := 309) (v := g (tRow f (nI l))) (520 + 16 * b + 8 + tRow f (nI l)) dX2_book_308 (by assumption) (by first | assumption | (simp only [← nI_add, ← pk_mul]; rfl) | rfl) (by omega) (by omega) (by (rw [show 520 + 16 * b + 8 + tRow f (nI l) = 520 + 16 * b + (8 + tRow f (nI l)) by omega, hT.2.1.bk hb (show 8 + tRow f (nI l) < 16 by omega)]; unfold tRows; rw [if_pos ⟨rfl, rfl, by omega, by omega⟩, show 8 + tRow f (nI l) - 8 = tRow f (nI l) by omega])) rfl ?_
        refine aw_iload (q := 311) dX2_book_309 rfl rfl ?_
        refine aw_iadd (q := 312) dX2_book_311 rfl ?_
        refine aw_iast (q := 313) (520 + 16 * b + 8 + tRow f (nI l)) dX2_book_312 h1 (by first | assumption | simp) (by first | assumption | (simp only [← nI_add, ← pk_mul]; rfl) | rfl) (by omega) (by omega) rfl (fun μ2 hg_μ2 => ?_)
        have a7 : μ2 _ = some _ := hg_μ2 ▸ (updM_ne (zneq a7 h1 (by simp))).trans a7
        have h1 : μ2 _ = some _ := hg_μ2 ▸ updM_eq _ _ _
        obtain ⟨f2, hT, hk⟩ := hT.st' hk (s := 4) (i := b) (c := 8 + tRow f (nI l)) (by omega) (show b < 80 by omega) (show 8 + tRow f (nI l) < 16 by omega) (by simp only [tB, tW]; omega) hg_μ2 (hT.2.2.upd (by omega))
        rw [tRows_u hrow] at hT
        have hm := hT.m
        first | refine aw_aload_n (i := 0) (q := 314) dX2_book_313 rfl rfl rfl ?_ | refine aw_aloadN_n (i := 0) (q := 314) dX2_book_313 rfl rfl rfl ?_ | refine aw_aloadQ_n (i := 0) (q := 314) dX2_book_313 rfl rfl rfl ?_
        refine aw_getfield (q := 317) dX2_book_314 gf_X2_29_2 (by assumption) rfl rfl ?_
        refine aw_iload (q := 319) dX2_book_317 rfl rfl ?_
        refine aw_dup2 (q := 320) dX2_book_319 (by first | rfl | exact zcat_rf _) (by first | rfl | exact zcat_rf _) rfl ?_
        refine aw_iald (q := 321) (v := f (tRow f (nI l))) (tRow f (nI l)) dX2_book_320 (by assumption) (by first | assumption | (simp only [← nI_add, ← pk_mul]; rfl) | rfl) (by omega) (by omega) (e7) rfl ?_
        refine aw_iload (q := 323) dX2_book_321 rfl rfl ?_
        refine aw_isub (q := 324) dX2_book_323 rfl ?_
        refine aw_iast (q := 325) (tRow f (nI l)) dX2_book_324 a7 (by first | assumption | simp) (by first | assumption | (simp only [← nI_add, ← pk_mul]; rfl) | rfl) (by omega) (by omega) rfl (fun μ3 hg_μ3 => ?_)
        have a7 : μ3 _ = some _ := hg_μ3 ▸ updM_eq _ _ _
        obtain ⟨hT3, hk3⟩ := hT.1.st7 hg_μ3
        have hT3 := hT.other hT3 (setK_ne (by decide))
        rw [setK_comm _ _ _ (by decide : (1 : Nat) ≠ 7), setK_twice] at hT3
        have hm := hT3.m
        refine aw_iload (q := 327) dX2_book_325 rfl rfl ?_
        refine aw_iload (q := 329) dX2_book_327 rfl rfl ?_
        refine aw_isub (q := 330) dX2_book_329 rfl ?_
        refine aw_istore (q := 332) dX2_book_330 (by decide) rfl ?_
        refine aw_goto (tgt := 256) dX2_book_332 (by decide) ?_
        rw [pk_sub k2]
        exact aw_locals (by exact ⟨rfl, rfl, rfl, rfl, rfl, rfl, rfl, rfl, trivial⟩) (ih (l - k) (by omega) μ3 _ _ f2 _ _ (by rw [k4] at hok2; exact hok2) hn2 (fun r hr => by (by_cases e : r = tRow f (nI l); (rw [e, pk_us, pk_us]); (rw [pk_un e, pk_un e]; exact h7f r hr))) hT3 (hk.tr hk3))
      refine aw_iload (q := 258) dX2_book_256 rfl rfl ?_
      refine aw_if_le (tgt := 335) (q := 261) dX2_book_258 (by decide) rfl (fun hc => absurd hc (nI_nle (by omega) (by omega))) (fun _ => ?_)
      first | refine aw_aload_n (i := 0) (q := 262) dX2_book_261 rfl rfl rfl ?_ | refine aw_aloadN_n (i := 0) (q := 262) dX2_book_261 rfl rfl rfl ?_ | refine aw_aloadQ_n (i := 0) (q := 262) dX2_book_261 rfl rfl rfl ?_
      refine aw_iload (q := 264) dX2_book_262 rfl rfl ?_
      refine aw_callV (q := 267) dX2_book_264 (C2_nextRow hT) cv_X2_107_2 (by assumption) rfl rfl (by decide) (by decide) (by first | exact Nat.le_of_ble_eq_true rfl | simp [zcat_rf, Value.category]) rfl (zpk ?_)
      rw [show tRow (setK (setK K' 7 h7) 1 f1 7) (nI l) = tRow f (nI l) from er]
      refine aw_istore (q := 269) dX2_book_267 (by decide) rfl ?_
      first | refine aw_aload_n (i := 0) (q := 270) dX2_book_269 rfl rfl rfl ?_ | refine aw_aloadN_n (i := 0) (q := 270) dX2_book_269 rfl rfl rfl ?_ | refine aw_aloadQ_n (i := 0) (q := 270) dX2_book_269 rfl rfl rfl ?_
      refine aw_getfield (q := 273) dX2_book_270 gf_X2_29_2 (by assumption) rfl rfl ?_
      refine aw_iload (q := 275) dX2_book_273 rfl rfl ?_
      refine aw_iald (q := 276) (v := f (tRow f (nI l))) (tRow f (nI l)) dX2_book_275 (by assumption) (by first | assumption | (simp only [← nI_add, ← pk_mul]; rfl) | rfl) (by omega) (by omega) (e7) rfl ?_
      refine aw_iload (q := 278) dX2_book_276 rfl rfl ?_
      refine aw_icmp_ge (tgt := 291) (q := 281) dX2_book_278 (by decide) rfl (fun hc => ?_) (fun hc => ?_)
      · refine aw_iload (q := 293) dX2_book_291 rfl rfl ?_
        exact aw_locals (by exact ⟨rfl, rfl, rfl, rfl, rfl, rfl, rfl, rfl, rfl, trivial⟩) (rest (nI l) (by rw [← k4]; exact Eq.symm (if_neg (Int32.not_lt.mpr hc))))
      · first | refine aw_aload_n (i := 0) (q := 282) dX2_book_281 rfl rfl rfl ?_ | refine aw_aloadN_n (i := 0) (q := 282) dX2_book_281 rfl rfl rfl ?_ | refine aw_aloadQ_n (i := 0) (q := 282) dX2_book_281 rfl rfl rfl ?_
        refine aw_getfield (q := 285) dX2_book_282 gf_X2_29_2 (by assumption) rfl rfl ?_
        refine aw_iload (q := 287) dX2_book_285 rfl rfl ?_
        refine aw_iald (q := 288) (v := f (tRow f (nI l))) (tRow f (nI l)) dX2_book_287 (by assumption) (by first | assumption | (simp only [← nI_add, ← pk_mul]; rfl) | rfl) (by omega) (by omega) (e7) rfl ?_
        refine aw_goto (tgt := 293) dX2_book_288 (by decide) ?_
        exact aw_locals (by exact ⟨rfl, rfl, rfl, rfl, rfl, rfl, rfl, rfl, rfl, trivial⟩) (rest (f (tRow f (nI l))) (by rw [← k4]; exact Eq.symm (if_pos (Int32.not_le.mp hc))))
theorem C2_book {sh seats school bound : Int32} (hS : zTS G μ m lam K P R) (hI : tPI P) : Meets G 5 MX2_book [.ref m, .int sh, .int seats, .int school, .int bound] μ (tPub G μ m lam K (tBookC P R sh seats school bound)) 0 0 := by
  have hm := hS.1.m
  have h1 := hS.1.a1
  obtain ⟨hn, hN⟩ := hS.1.2.2.s
  obtain ⟨hbn, hbN⟩ := hS.1.2.2.b
  have hle : P 0 0 10 ≠ 80 → pcn P 10 < 80 := fun h => by
    have : pcn P 10 ≠ 80 := fun e => h (by rw [hbn, e]; rfl)
    omega
  have bad : ∀ L, (0 ≤ sh ∧ sh ≤ P 0 0 9 - 1) → ¬ ((1 ≤ seats ∧ seats ≤ 40) ∧ (school = -6 ∨ (0 ≤ school ∧ school ≤ 5)) ∧ (0 ≤ bound ∧ bound ≤ 1)) → AW G 5 MX2_book (tPub G μ m lam K (tBookC P R sh seats school bound)) 0 0 45 L [] μ := by
    intro L h1 h2
    refine aw_bipush (v := (-2)) (q := 47) dX2_book_45 rfl rfl ?_
    exact aw_ireturn dX2_book_47 rfl (by first | rfl | exact zB_nar _) (tPub.same hS (by rw [tBookC, if_pos h1, if_neg h2]))
  refine meets_of (by decide +kernel) (Nat.le_of_ble_eq_true rfl) ?_
  first | refine aw_aload_n (i := 0) (q := 1) dX2_book_0 rfl rfl rfl ?_ | refine aw_aloadN_n (i := 0) (q := 1) dX2_book_0 rfl rfl rfl ?_ | refine aw_aloadQ_n (i := 0) (q := 1) dX2_book_0 rfl rfl rfl ?_
  refine aw_iload_n (i := 1) (q := 2) dX2_book_1 rfl rfl rfl ?_
  refine aw_callV (q := 5) dX2_book_2 (C2_isShow hS.1) cv_X2_97_2 (by assumption) rfl rfl (by decide) (by decide) (by first | exact Nat.le_of_ble_eq_true rfl | simp [zcat_rf, Value.category]) rfl (zpk ?_)
  refine aw_if_ne (tgt := 10) (q := 8) dX2_book_5 (by decide) rfl (fun hsh => ?_) (fun hsh => ?_)
  · skip
    have hi := zB_1 hsh
    obtain ⟨j, hj, rfl⟩ := tIx hn (by omega) hi
    refine aw_iload_n (i := 2) (q := 11) dX2_book_10 rfl rfl rfl ?_
    refine aw_iconst (v := 1) (q := 12) dX2_book_11 rfl rfl ?_
    refine aw_bipush (v := 40) (q := 14) dX2_book_12 rfl rfl ?_
    refine aw_callS (q := 17) dX2_book_14 (C2_in) cs_X2_49 rfl rfl (by decide) (by decide) (by first | exact Nat.le_of_ble_eq_true rfl | simp [zcat_rf, Value.category]) rfl (zpk ?_)
    refine aw_if_eq (tgt := 45) (q := 20) dX2_book_17 (by decide) rfl (fun ha => ?_) (fun ha => ?_)
    · skip
      exact bad _ hi (fun h => zB_0 ha h.1)
    · skip
      have sc : ∀ L, (school = -6 ∨ (0 ≤ school ∧ school ≤ 5)) → L = lv_args 0 [.ref m, .int (nI j), .int seats, .int school, .int bound] → AW G 5 MX2_book (tPub G μ m lam K (tBookC P R (nI j) seats school bound)) 0 0 35 L [] μ := by
        intro L hsc hL
        subst hL
        refine aw_iload (q := 37) dX2_book_35 rfl rfl ?_
        refine aw_iconst (v := 0) (q := 38) dX2_book_37 rfl rfl ?_
        refine aw_iconst (v := 1) (q := 39) dX2_book_38 rfl rfl ?_
        refine aw_callS (q := 42) dX2_book_39 (C2_in) cs_X2_49 rfl rfl (by decide) (by decide) (by first | exact Nat.le_of_ble_eq_true rfl | simp [zcat_rf, Value.category]) rfl (zpk ?_)
        refine aw_if_ne (tgt := 48) (q := 45) dX2_book_42 (by decide) rfl (fun hb => ?_) (fun hb => ?_)
        · first | refine aw_aload_n (i := 0) (q := 49) dX2_book_48 rfl rfl rfl ?_ | refine aw_aloadN_n (i := 0) (q := 49) dX2_book_48 rfl rfl rfl ?_ | refine aw_aloadQ_n (i := 0) (q := 49) dX2_book_48 rfl rfl rfl ?_
          refine aw_getfield (q := 52) dX2_book_49 gf_X2_7_2 (by assumption) rfl rfl ?_
          refine aw_bipush (v := 10) (q := 54) dX2_book_52 rfl rfl ?_
          have good := And.intro (zB_1 ha) (And.intro hsc (zB_1 hb))
          refine aw_iald (q := 55) (v := P 0 0 10) (10) dX2_book_54 (by assumption) (by first | assumption | (simp only [← nI_add, ← pk_mul]; rfl) | rfl) (by omega) (by omega) (hS.1.2.1.g (by omega)) rfl ?_
          refine aw_bipush (v := 80) (q := 57) dX2_book_55 rfl rfl ?_
          refine aw_icmp_ne (tgt := 63) (q := 60) dX2_book_57 (by decide) rfl (fun hd => ?_) (fun hd => ?_)
          · first | refine aw_aload_n (i := 0) (q := 64) dX2_book_63 rfl rfl rfl ?_ | refine aw_aloadN_n (i := 0) (q := 64) dX2_book_63 rfl rfl rfl ?_ | refine aw_aloadQ_n (i := 0) (q := 64) dX2_book_63 rfl rfl rfl ?_
            refine aw_iload_n (i := 1) (q := 65) dX2_book_64 rfl rfl rfl ?_
            refine aw_iload_n (i := 2) (q := 66) dX2_book_65 rfl rfl rfl ?_
            refine aw_callV (q := 69) dX2_book_66 (C2_canBook (s := j) hS.1 rfl (by omega)) cv_X2_100_2 (by assumption) rfl rfl (by decide) (by decide) (by first | exact Nat.le_of_ble_eq_true rfl | simp [zcat_rf, Value.category]) rfl (zpk ?_)
            have e0 : tBookC P R (nI j) seats school bound = if P 3 j 3 = 0 ∧ tTaken P (nI j) + seats ≤ 96 then (tBookAdd P j seats school bound, tRec P R, nI (pcn P 10)) else (P, R, -5) := by
              rw [tBookC, if_pos hi, if_pos good, if_neg hd, nI_clamp (by omega)]
            refine aw_if_ne (tgt := 75) (q := 72) dX2_book_69 (by decide) rfl (fun he => ?_) (fun he => ?_)
            · skip
              have hcan := zB_1 he
              rw [if_pos hcan] at e0
              obtain ⟨lseat, hl1, hl2, rfl⟩ := zOf (A := 1) (B := 40) rfl rfl (by decide) (by omega) (zB_1 ha)
              first | refine aw_aload_n (i := 0) (q := 76) dX2_book_75 rfl rfl rfl ?_ | refine aw_aloadN_n (i := 0) (q := 76) dX2_book_75 rfl rfl rfl ?_ | refine aw_aloadQ_n (i := 0) (q := 76) dX2_book_75 rfl rfl rfl ?_
              refine aw_callV (q := 79) dX2_book_76 (C2_record hS) cv_X2_53_2 (by assumption) rfl rfl (by decide) (by decide) (by first | exact Nat.le_of_ble_eq_true rfl | simp [zcat_rf, Value.category]) rfl (fun v76 μ1 hp => ?_)
              obtain ⟨rfl, ⟨K', ⟨hT, hr⟩, e1, hf⟩, hk⟩ := hp
              have hm := hT.m
              have hlt := hle hd
              first | refine aw_aload_n (i := 0) (q := 80) dX2_book_79 rfl rfl rfl ?_ | refine aw_aloadN_n (i := 0) (q := 80) dX2_book_79 rfl rfl rfl ?_ | refine aw_aloadQ_n (i := 0) (q := 80) dX2_book_79 rfl rfl rfl ?_
              refine aw_iload_n (i := 1) (q := 81) dX2_book_80 rfl rfl rfl ?_
              refine aw_callV (q := 84) dX2_book_81 (C2_layFree (sh := nI j) hT) cv_X2_103_2 (by assumption) rfl rfl (by decide) (by decide) (by first | exact Nat.le_of_ble_eq_true rfl | simp [zcat_rf, Value.category]) rfl (fun v81 μ2 hp => ?_)
              obtain ⟨rfl, ⟨f7, hf7, hT⟩, hk2⟩ := hp
              have hk := hk.tr hk2
              have hT : zTP G μ2 m lam (setK (setK K' 7 f7) 1 (setK K' 7 f7 1)) P := by rw [setK_self]; exact hT
              have hm := hT.m
              have h1 := hT.a1
              refine aw_sipush (v := 520) (q := 87) dX2_book_84 rfl rfl ?_
              refine aw_bipush (v := 16) (q := 89) dX2_book_87 rfl rfl ?_
              first | refine aw_aload_n (i := 0) (q := 90) dX2_book_89 rfl rfl rfl ?_ | refine aw_aloadN_n (i := 0) (q := 90) dX2_book_89 rfl rfl rfl ?_ | refine aw_aloadQ_n (i := 0) (q := 90) dX2_book_89 rfl rfl rfl ?_
              refine aw_getfield (q := 93) dX2_book_90 gf_X2_7_2 (by assumption) rfl rfl ?_
              refine aw_bipush (v := 10) (q := 95) dX2_book_93 rfl rfl ?_
              refine aw_iald (q := 96) (v := nI (pcn P 10)) (10) dX2_book_95 (by assumption) (by first | assumption | (simp only [← nI_add, ← pk_mul]; rfl) | rfl) (by omega) (by omega) ((hT.2.1.g (by omega)).trans hbn) rfl ?_
              refine aw_imul (q := 97) dX2_book_96 rfl ?_
              refine aw_iadd (q := 98) dX2_book_97 rfl ?_
              refine aw_istore (q := 100) dX2_book_98 (by decide) rfl ?_
              first | refine aw_aload_n (i := 0) (q := 101) dX2_book_100 rfl rfl rfl ?_ | refine aw_aloadN_n (i := 0) (q := 101) dX2_book_100 rfl rfl rfl ?_ | refine aw_aloadQ_n (i := 0) (q := 101) dX2_book_100 rfl rfl rfl ?_
              refine aw_getfield (q := 104) dX2_book_101 gf_X2_7_2 (by assumption) rfl rfl ?_
              refine aw_bipush (v := 20) (q := 106) dX2_book_104 rfl rfl ?_
              refine aw_iconst (v := 3) (q := 107) dX2_book_106 rfl rfl ?_
              first | refine aw_aload_n (i := 0) (q := 108) dX2_book_107 rfl rfl rfl ?_ | refine aw_aloadN_n (i := 0) (q := 108) dX2_book_107 rfl rfl rfl ?_ | refine aw_aloadQ_n (i := 0) (q := 108) dX2_book_107 rfl rfl rfl ?_
              refine aw_iload_n (i := 1) (q := 109) dX2_book_108 rfl rfl rfl ?_
              refine aw_iconst (v := 0) (q := 110) dX2_book_109 rfl rfl ?_
              refine aw_callV (q := 113) dX2_book_110 (C2_ofShow (s := j) (c := 0) hT rfl rfl (by omega) (by omega)) cv_X2_75_2 (by assumption) rfl rfl (by decide) (by decide) (by first | exact Nat.le_of_ble_eq_true rfl | simp [zcat_rf, Value.category]) rfl (zpk ?_)
              obtain ⟨ek, hkd⟩ := hI.1.2.2.2 j hj
              have hk7 := hS.1.2.2.k.2
              rw [ek]
              refine aw_imul (q := 114) dX2_book_113 rfl ?_
              refine aw_iadd (q := 115) dX2_book_114 rfl ?_
              refine aw_iconst (v := 2) (q := 116) dX2_book_115 rfl rfl ?_
              refine aw_iadd (q := 117) dX2_book_116 rfl ?_
              refine aw_iald (q := 118) (v := P 1 (tKd P j) 2) (20 + 3 * tKd P j + 2) dX2_book_117 (by assumption) (by first | assumption | (simp only [← nI_add, ← pk_mul]; rfl) | rfl) (by omega) (by omega) (hT.2.1.ki (by omega) (by omega)) rfl ?_
              refine aw_istore (q := 120) dX2_book_118 (by decide) rfl ?_
              first | refine aw_aload_n (i := 0) (q := 121) dX2_book_120 rfl rfl rfl ?_ | refine aw_aloadN_n (i := 0) (q := 121) dX2_book_120 rfl rfl rfl ?_ | refine aw_aloadQ_n (i := 0) (q := 121) dX2_book_120 rfl rfl rfl ?_
              refine aw_getfield (q := 124) dX2_book_121 gf_X2_7_2 (by assumption) rfl rfl ?_
              refine aw_iload (q := 126) dX2_book_124 rfl rfl ?_
              refine aw_iload_n (i := 1) (q := 127) dX2_book_126 rfl rfl rfl ?_
              refine aw_iast (q := 128) (520 + 16 * pcn P 10) dX2_book_127 h1 (by first | assumption | simp) (by first | assumption | (simp only [← nI_add, ← pk_mul]; rfl) | rfl) (by omega) (by omega) rfl (fun μt2 hg_μt2 => ?_)
              have h1 : μt2 _ = some _ := hg_μt2 ▸ updM_eq _ _ _
              obtain ⟨fμt2, hT, hk⟩ := hT.st' hk (s := 4) (i := pcn P 10) (c := 0) (by omega) (show pcn P 10 < 80 by omega) (show 0 < 16 by omega) (by first | (simp only [tB, tW]; done) | (simp only [tB, tW]; omega)) hg_μt2 (hT.2.2.upd (by omega))
              have hm := hT.m
              have h1 := hT.a1
              first | refine aw_aload_n (i := 0) (q := 129) dX2_book_128 rfl rfl rfl ?_ | refine aw_aloadN_n (i := 0) (q := 129) dX2_book_128 rfl rfl rfl ?_ | refine aw_aloadQ_n (i := 0) (q := 129) dX2_book_128 rfl rfl rfl ?_
              refine aw_getfield (q := 132) dX2_book_129 gf_X2_7_2 (by assumption) rfl rfl ?_
              refine aw_iload (q := 134) dX2_book_132 rfl rfl ?_
              refine aw_iconst (v := 1) (q := 135) dX2_book_134 rfl rfl ?_
              refine aw_iadd (q := 136) dX2_book_135 rfl ?_
              refine aw_iload_n (i := 2) (q := 137) dX2_book_136 rfl rfl rfl ?_
              refine aw_iast (q := 138) (520 + 16 * pcn P 10 + 1) dX2_book_137 h1 (by first | assumption | simp) (by first | assumption | (simp only [← nI_add, ← pk_mul]; rfl) | rfl) (by omega) (by omega) rfl (fun μt3 hg_μt3 => ?_)
              have h1 : μt3 _ = some _ := hg_μt3 ▸ updM_eq _ _ _
              obtain ⟨fμt3, hT, hk⟩ := hT.st' hk (s := 4) (i := pcn P 10) (c := 1) (by omega) (show pcn P 10 < 80 by omega) (show 1 < 16 by omega) (by first | (simp only [tB, tW]; done) | (simp only [tB, tW]; omega)) hg_μt3 (hT.2.2.upd (by omega))
              have hm := hT.m
              have h1 := hT.a1
              first | refine aw_aload_n (i := 0) (q := 139) dX2_book_138 rfl rfl rfl ?_ | refine aw_aloadN_n (i := 0) (q := 139) dX2_book_138 rfl rfl rfl ?_ | refine aw_aloadQ_n (i := 0) (q := 139) dX2_book_138 rfl rfl rfl ?_
              refine aw_getfield (q := 142) dX2_book_139 gf_X2_7_2 (by assumption) rfl rfl ?_
              refine aw_iload (q := 144) dX2_book_142 rfl rfl ?_
              refine aw_iconst (v := 2) (q := 145) dX2_book_144 rfl rfl ?_
              refine aw_iadd (q := 146) dX2_book_145 rfl ?_
              refine aw_iload_n (i := 3) (q := 147) dX2_book_146 rfl rfl rfl ?_
              refine aw_iast (q := 148) (520 + 16 * pcn P 10 + 2) dX2_book_147 h1 (by first | assumption | simp) (by first | assumption | (simp only [← nI_add, ← pk_mul]; rfl) | rfl) (by omega) (by omega) rfl (fun μt4 hg_μt4 => ?_)
              have h1 : μt4 _ = some _ := hg_μt4 ▸ updM_eq _ _ _
              obtain ⟨fμt4, hT, hk⟩ := hT.st' hk (s := 4) (i := pcn P 10) (c := 2) (by omega) (show pcn P 10 < 80 by omega) (show 2 < 16 by omega) (by first | (simp only [tB, tW]; done) | (simp only [tB, tW]; omega)) hg_μt4 (hT.2.2.upd (by omega))
              have hm := hT.m
              have h1 := hT.a1
              first | refine aw_aload_n (i := 0) (q := 149) dX2_book_148 rfl rfl rfl ?_ | refine aw_aloadN_n (i := 0) (q := 149) dX2_book_148 rfl rfl rfl ?_ | refine aw_aloadQ_n (i := 0) (q := 149) dX2_book_148 rfl rfl rfl ?_
              refine aw_getfield (q := 152) dX2_book_149 gf_X2_7_2 (by assumption) rfl rfl ?_
              refine aw_iload (q := 154) dX2_book_152 rfl rfl ?_
              refine aw_iconst (v := 3) (q := 155) dX2_book_154 rfl rfl ?_
              refine aw_iadd (q := 156) dX2_book_155 rfl ?_
              refine aw_iload (q := 158) dX2_book_156 rfl rfl ?_
              refine aw_iast (q := 159) (520 + 16 * pcn P 10 + 3) dX2_book_158 h1 (by first | assumption | simp) (by first | assumption | (simp only [← nI_add, ← pk_mul]; rfl) | rfl) (by omega) (by omega) rfl (fun μt5 hg_μt5 => ?_)
              have h1 : μt5 _ = some _ := hg_μt5 ▸ updM_eq _ _ _
              obtain ⟨fμt5, hT, hk⟩ := hT.st' hk (s := 4) (i := pcn P 10) (c := 3) (by omega) (show pcn P 10 < 80 by omega) (show 3 < 16 by omega) (by first | (simp only [tB, tW]; done) | (simp only [tB, tW]; omega)) hg_μt5 (hT.2.2.upd (by omega))
              have hm := hT.m
              have h1 := hT.a1
              first | refine aw_aload_n (i := 0) (q := 160) dX2_book_159 rfl rfl rfl ?_ | refine aw_aloadN_n (i := 0) (q := 160) dX2_book_159 rfl rfl rfl ?_ | refine aw_aloadQ_n (i := 0) (q := 160) dX2_book_159 rfl rfl rfl ?_
              refine aw_getfield (q := 163) dX2_book_160 gf_X2_7_2 (by assumption) rfl rfl ?_
              refine aw_iload (q := 165) dX2_book_163 rfl rfl ?_
              refine aw_iconst (v := 4) (q := 166) dX2_book_165 rfl rfl ?_
              refine aw_iadd (q := 167) dX2_book_166 rfl ?_
              refine aw_iconst (v := 0) (q := 168) dX2_book_167 rfl rfl ?_
              refine aw_iast (q := 169) (520 + 16 * pcn P 10 + 4) dX2_book_168 h1 (by first | assumption | simp) (by first | assumption | (simp only [← nI_add, ← pk_mul]; rfl) | rfl) (by omega) (by omega) rfl (fun μ7 hg_μ7 => ?_)
              have h1 : μ7 _ = some _ := hg_μ7 ▸ updM_eq _ _ _
              obtain ⟨fμ7, hT, hk⟩ := hT.st' hk (s := 4) (i := pcn P 10) (c := 4) (by omega) (show pcn P 10 < 80 by omega) (show 4 < 16 by omega) (by first | (simp only [tB, tW]; done) | (simp only [tB, tW]; omega)) hg_μ7 (hT.2.2.upd (by omega))
              have hm := hT.m
              have h1 := hT.a1
              first | refine aw_aload_n (i := 0) (q := 170) dX2_book_169 rfl rfl rfl ?_ | refine aw_aloadN_n (i := 0) (q := 170) dX2_book_169 rfl rfl rfl ?_ | refine aw_aloadQ_n (i := 0) (q := 170) dX2_book_169 rfl rfl rfl ?_
              refine aw_getfield (q := 173) dX2_book_170 gf_X2_7_2 (by assumption) rfl rfl ?_
              refine aw_iload (q := 175) dX2_book_173 rfl rfl ?_
              refine aw_iconst (v := 5) (q := 176) dX2_book_175 rfl rfl ?_
              refine aw_iadd (q := 177) dX2_book_176 rfl ?_
              refine aw_iload_n (i := 2) (q := 178) dX2_book_177 rfl rfl rfl ?_
              refine aw_iload_n (i := 3) (q := 179) dX2_book_178 rfl rfl rfl ?_
              have hok : tSeatOk (tFreeIn P (nI j)) (fun r => (tFreeIn P (nI j) r).toNatClampNeg) lseat := by
                have hfr : ∀ r, r < 8 → tFreeIn P (nI j) r = nI ((tFreeIn P (nI j) r).toNatClampNeg) ∧ (tFreeIn P (nI j) r).toNatClampNeg ≤ 12 := by
                  intro r hr
                  obtain ⟨k, hk, ek⟩ := hI.2.2.2.2 j hj r hr
                  rw [ek, nI_clamp (by omega)]
                  exact ⟨rfl, by omega⟩
                refine ⟨hfr, hl2, ?_⟩
                have h2 := hcan.2
                unfold tTaken at h2
                rw [tSumR_nI (φ := fun r => (tFreeIn P (nI j) r).toNatClampNeg) 8 (fun r hr => (hfr r hr).1)] at h2
                exact zN96 (tSums_le (B := 12) 8 (fun r hr => (hfr r hr).2)) hl2 h2
              have fin : ∀ v : Int32, v = tCost P j (nI lseat) school → AW G 5 MX2_book (tPub G μ m lam K (tBookC P R (nI j) (nI lseat) school bound)) 0 0 200 [(0, .ref m), (1, .int (nI j)), (2, .int (nI lseat)), (3, .int school), (4, .int bound), (5, .int (520 + 16 * nI (pcn P 10))), (6, .int (P 1 (tKd P j) 2))] [.int v, .int (520 + 16 * nI (pcn P 10) + 5), .ref (lam 1)] μ7 := by
                intro v hv
                subst hv
                refine aw_iast (q := 201) (520 + 16 * pcn P 10 + 5) dX2_book_200 h1 (by first | assumption | simp) (by first | assumption | (simp only [← nI_add, ← pk_mul]; rfl) | rfl) (by omega) (by omega) rfl (fun μt7 hg_μt7 => ?_)
                have h1 : μt7 _ = some _ := hg_μt7 ▸ updM_eq _ _ _
                obtain ⟨fμt7, hT, hk⟩ := hT.st' hk (s := 4) (i := pcn P 10) (c := 5) (by omega) (show pcn P 10 < 80 by omega) (show 5 < 16 by omega) (by first | (simp only [tB, tW]; done) | (simp only [tB, tW]; omega)) hg_μt7 (hT.2.2.upd (by omega))
                have hm := hT.m
                have h1 := hT.a1
                first | refine aw_aload_n (i := 0) (q := 202) dX2_book_201 rfl rfl rfl ?_ | refine aw_aloadN_n (i := 0) (q := 202) dX2_book_201 rfl rfl rfl ?_ | refine aw_aloadQ_n (i := 0) (q := 202) dX2_book_201 rfl rfl rfl ?_
                refine aw_getfield (q := 205) dX2_book_202 gf_X2_7_2 (by assumption) rfl rfl ?_
                refine aw_iload (q := 207) dX2_book_205 rfl rfl ?_
                refine aw_bipush (v := 6) (q := 209) dX2_book_207 rfl rfl ?_
                refine aw_iadd (q := 210) dX2_book_209 rfl ?_
                refine aw_iconst (v := 0) (q := 211) dX2_book_210 rfl rfl ?_
                refine aw_iast (q := 212) (520 + 16 * pcn P 10 + 6) dX2_book_211 h1 (by first | assumption | simp) (by first | assumption | (simp only [← nI_add, ← pk_mul]; rfl) | rfl) (by omega) (by omega) rfl (fun μt8 hg_μt8 => ?_)
                have h1 : μt8 _ = some _ := hg_μt8 ▸ updM_eq _ _ _
                obtain ⟨fμt8, hT, hk⟩ := hT.st' hk (s := 4) (i := pcn P 10) (c := 6) (by omega) (show pcn P 10 < 80 by omega) (show 6 < 16 by omega) (by first | (simp only [tB, tW]; done) | (simp only [tB, tW]; omega)) hg_μt8 (hT.2.2.upd (by omega))
                have hm := hT.m
                have h1 := hT.a1
                first | refine aw_aload_n (i := 0) (q := 213) dX2_book_212 rfl rfl rfl ?_ | refine aw_aloadN_n (i := 0) (q := 213) dX2_book_212 rfl rfl rfl ?_ | refine aw_aloadQ_n (i := 0) (q := 213) dX2_book_212 rfl rfl rfl ?_
                refine aw_getfield (q := 216) dX2_book_213 gf_X2_7_2 (by assumption) rfl rfl ?_
                refine aw_iload (q := 218) dX2_book_216 rfl rfl ?_
                refine aw_bipush (v := 7) (q := 220) dX2_book_218 rfl rfl ?_
                refine aw_iadd (q := 221) dX2_book_220 rfl ?_
                refine aw_iconst (v := 0) (q := 222) dX2_book_221 rfl rfl ?_
                refine aw_iast (q := 223) (520 + 16 * pcn P 10 + 7) dX2_book_222 h1 (by first | assumption | simp) (by first | assumption | (simp only [← nI_add, ← pk_mul]; rfl) | rfl) (by omega) (by omega) rfl (fun μ8 hg_μ8 => ?_)
                have h1 : μ8 _ = some _ := hg_μ8 ▸ updM_eq _ _ _
                obtain ⟨fμ8, hT, hk⟩ := hT.st' hk (s := 4) (i := pcn P 10) (c := 7) (by omega) (show pcn P 10 < 80 by omega) (show 7 < 16 by omega) (by first | (simp only [tB, tW]; done) | (simp only [tB, tW]; omega)) hg_μ8 (hT.2.2.upd (by omega))
                have hm := hT.m
                have h1 := hT.a1
                refine aw_iconst (v := 0) (q := 224) dX2_book_223 rfl rfl ?_
                refine aw_istore (q := 226) dX2_book_224 (by decide) rfl ?_
                have hT2 := hT
                have loop : ∀ n e, e + n = 8 → ∀ (μ1 : zM) (f1 : Nat → Int32), zTP G μ1 m lam (setK (setK K' 7 f7) 1 f1) (tRows (tBk0 P j (nI lseat) school bound) (pcn P 10) e (fun _ => 0)) → zKp tTw μ μ1 → AW G 5 MX2_book (tPub G μ m lam K (tBookC P R (nI j) (nI lseat) school bound)) 0 0 226 [(0, .ref m), (1, .int (nI j)), (2, .int (nI lseat)), (3, .int school), (4, .int bound), (5, .int (520 + 16 * nI (pcn P 10))), (6, .int (P 1 (tKd P j) 2)), (7, .int (nI e))] [] μ1 := by
                  intro n
                  induction n with
                  | zero =>
                    intro e he μ1 f1 hT hk
                    have e8 : e = 8 := by omega
                    subst e8
                    refine aw_iload (q := 228) dX2_book_226 rfl rfl ?_
                    refine aw_bipush (v := 8) (q := 230) dX2_book_228 rfl rfl ?_
                    refine aw_icmp_ge (tgt := 253) (q := 233) dX2_book_230 (by decide) rfl (fun _ => ?_) (fun hc => absurd (nI_le (a := 8) (by omega) (by omega)) hc)
                    refine aw_iload_n (i := 2) (q := 254) dX2_book_253 rfl rfl rfl ?_
                    refine aw_istore (q := 256) dX2_book_254 (by decide) rfl ?_
                    exact aw_locals (by exact ⟨rfl, rfl, rfl, rfl, rfl, rfl, rfl, rfl, trivial⟩) (book_c (X := tSeat P j (nI lseat)) hlt (by (repeat rw [updP_ne (by omega)]); exact hbn) hT2.2.2 hf hr (by rw [e0]; rfl) 41 lseat (by omega) μ1 (tFreeIn P (nI j)) (fun _ => 0) f1 f7 _ hok rfl hf7 hT hk)
                  | succ n ih =>
                    intro e he μ1 f1 hT hk
                    have hm := hT.m
                    have h1 := hT.a1
                    refine aw_iload (q := 228) dX2_book_226 rfl rfl ?_
                    refine aw_bipush (v := 8) (q := 230) dX2_book_228 rfl rfl ?_
                    refine aw_icmp_ge (tgt := 253) (q := 233) dX2_book_230 (by decide) rfl (fun hc => absurd hc (nI_ge (b := 8) (a := e) (by omega) (by omega))) (fun _ => ?_)
                    first | refine aw_aload_n (i := 0) (q := 234) dX2_book_233 rfl rfl rfl ?_ | refine aw_aloadN_n (i := 0) (q := 234) dX2_book_233 rfl rfl rfl ?_ | refine aw_aloadQ_n (i := 0) (q := 234) dX2_book_233 rfl rfl rfl ?_
                    refine aw_getfield (q := 237) dX2_book_234 gf_X2_7_2 (by assumption) rfl rfl ?_
                    refine aw_iload (q := 239) dX2_book_237 rfl rfl ?_
                    refine aw_bipush (v := 8) (q := 241) dX2_book_239 rfl rfl ?_
                    refine aw_iadd (q := 242) dX2_book_241 rfl ?_
                    refine aw_iload (q := 244) dX2_book_242 rfl rfl ?_
                    refine aw_iadd (q := 245) dX2_book_244 rfl ?_
                    refine aw_iconst (v := 0) (q := 246) dX2_book_245 rfl rfl ?_
                    refine aw_iast (q := 247) (520 + 16 * pcn P 10 + 8 + e) dX2_book_246 h1 (by first | assumption | simp) (by first | assumption | (simp only [← nI_add, ← pk_mul]; rfl) | rfl) (by omega) (by omega) rfl (fun μ2 hg_μ2 => ?_)
                    have h1 : μ2 _ = some _ := hg_μ2 ▸ updM_eq _ _ _
                    obtain ⟨f2, hT, hk⟩ := hT.st' hk (s := 4) (i := pcn P 10) (c := 8 + e) (by omega) (show pcn P 10 < 80 by omega) (show 8 + e < 16 by omega) (by simp only [tB, tW]; omega) hg_μ2 (hT.2.2.upd (by omega))
                    rw [tRows_s (g := fun _ => 0)] at hT
                    refine aw_iinc (q := 250) dX2_book_247 rfl (by first | exact nI_1 _ | rfl) (by decide) rfl ?_
                    refine aw_goto (tgt := 226) dX2_book_250 (by decide) ?_
                    exact aw_locals (by exact ⟨rfl, rfl, rfl, rfl, rfl, rfl, rfl, rfl, trivial⟩) (ih (e + 1) (by omega) μ2 f2 hT hk)
                exact aw_locals (by exact ⟨rfl, rfl, rfl, rfl, rfl, rfl, rfl, rfl, trivial⟩) (loop 8 0 (by omega) μ8 fμ8 (by rw [tRows_0]; exact hT) hk)
              refine aw_if_lt (tgt := 197) (q := 182) dX2_book_179 (by decide) rfl (fun hs0 => ?_) (fun hs0 => ?_)
              · refine aw_iload (q := 199) dX2_book_197 rfl rfl ?_
                refine aw_imul (q := 200) dX2_book_199 rfl ?_
                exact aw_locals (by exact ⟨rfl, rfl, rfl, rfl, rfl, rfl, rfl, trivial⟩) (fin _ (by rw [tCost, if_neg (Int32.not_le.mpr hs0)]))
              · refine aw_iload (q := 184) dX2_book_182 rfl rfl ?_
                first | refine aw_aload_n (i := 0) (q := 185) dX2_book_184 rfl rfl rfl ?_ | refine aw_aloadN_n (i := 0) (q := 185) dX2_book_184 rfl rfl rfl ?_ | refine aw_aloadQ_n (i := 0) (q := 185) dX2_book_184 rfl rfl rfl ?_
                refine aw_getfield (q := 188) dX2_book_185 gf_X2_7_2 (by assumption) rfl rfl ?_
                refine aw_iconst (v := 4) (q := 189) dX2_book_188 rfl rfl ?_
                refine aw_iald (q := 190) (v := P 0 0 4) (4) dX2_book_189 (by assumption) (by first | assumption | (simp only [← nI_add, ← pk_mul]; rfl) | rfl) (by omega) (by omega) ((hT.2.1.g (by omega)).trans (by (repeat rw [updP_ne (by omega)]))) rfl ?_
                refine aw_imul (q := 191) dX2_book_190 rfl ?_
                refine aw_bipush (v := 100) (q := 193) dX2_book_191 rfl rfl ?_
                refine aw_idiv (q := 194) dX2_book_193 (by decide) rfl ?_
                refine aw_goto (tgt := 199) dX2_book_194 (by decide) ?_
                refine aw_imul (q := 200) dX2_book_199 rfl ?_
                exact aw_locals (by exact ⟨rfl, rfl, rfl, rfl, rfl, rfl, rfl, trivial⟩) (fin _ (by rw [tCost, if_pos (Int32.not_lt.mp hs0)]))
            · refine aw_bipush (v := (-5)) (q := 74) dX2_book_72 rfl rfl ?_
              exact aw_ireturn dX2_book_74 rfl (by first | rfl | exact zB_nar _) (tPub.same hS (by rw [e0, if_neg (zB_0 he)]))
          · refine aw_bipush (v := (-4)) (q := 62) dX2_book_60 rfl rfl ?_
            exact aw_ireturn dX2_book_62 rfl (by first | rfl | exact zB_nar _) (tPub.same hS (by rw [tBookC, if_pos hi, if_pos good, if_pos hd]))
        · skip
          exact bad _ hi (fun h => zB_0 hb h.2.2)
      refine aw_iload_n (i := 3) (q := 21) dX2_book_20 rfl rfl rfl ?_
      refine aw_bipush (v := (-6)) (q := 23) dX2_book_21 rfl rfl ?_
      refine aw_icmp_eq (tgt := 35) (q := 26) dX2_book_23 (by decide) rfl (fun hc => ?_) (fun hc => ?_)
      · skip
        exact sc _ (Or.inl hc) rfl
      · refine aw_iload_n (i := 3) (q := 27) dX2_book_26 rfl rfl rfl ?_
        refine aw_iconst (v := 0) (q := 28) dX2_book_27 rfl rfl ?_
        refine aw_iconst (v := 5) (q := 29) dX2_book_28 rfl rfl ?_
        refine aw_callS (q := 32) dX2_book_29 (C2_in) cs_X2_49 rfl rfl (by decide) (by decide) (by first | exact Nat.le_of_ble_eq_true rfl | simp [zcat_rf, Value.category]) rfl (zpk ?_)
        refine aw_if_eq (tgt := 45) (q := 35) dX2_book_32 (by decide) rfl (fun hd => ?_) (fun hd => ?_)
        · skip
          exact bad _ hi (fun h => by (rcases h.2.1 with q | q; (exact hc q); (exact zB_0 hd q)))
        · skip
          exact sc _ (Or.inr (zB_1 hd)) rfl
  · refine aw_iconst (v := (-1)) (q := 9) dX2_book_8 rfl rfl ?_
    exact aw_ireturn dX2_book_9 rfl (by first | rfl | exact zB_nar _) (tPub.same hS (if_neg (zB_0 hsh)))
end ZTW16
