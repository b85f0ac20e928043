/-! THE PROGRAMME: a booking -/
set_option maxRecDepth 100000
theorem tSeatN_sum : ∀ n (f g : Nat → Int32) (left : Int32) (r : Nat), (tSeatN n f g left).1 r + (tSeatN n f g left).2 r = f r + g r
  | 0, _, _, _, _ => rfl
  | n + 1, f, g, left, r => by
    unfold tSeatN
    by_cases hl : left ≤ 0
    · rw [if_pos hl]
    · rw [if_neg hl, tSeatN_sum n]
      by_cases e : r = tRow f left
      · rw [e, pk_us, pk_us, Int32.sub_eq_add_neg, Int32.add_assoc, Int32.add_comm (g _), ← Int32.add_assoc (-_), Int32.add_left_neg, Int32.zero_add]
      · rw [pk_un e, pk_un e]
theorem tSeatN_congr2 : ∀ n (f g g' : Nat → Int32) (left : Int32), (∀ r, r < 8 → g r = g' r) → ∀ r, r < 8 → (tSeatN n f g left).2 r = (tSeatN n f g' left).2 r
  | 0, _, _, _, _, h => h
  | n + 1, f, g, g', left, h => by
    unfold tSeatN
    by_cases hl : left ≤ 0
    · rw [if_pos hl, if_pos hl]; exact h
    · rw [if_neg hl, if_neg hl]
      refine tSeatN_congr2 n _ _ _ _ (fun r hr => ?_)
      by_cases e : r = tRow f left
      · rw [e, pk_us, pk_us, h _ (e ▸ hr)]
      · rw [pk_un e, pk_un e]; exact h r hr
theorem tSeatOk.congr {f f' : Nat → Int32} {φ : Nat → Nat} {l : Nat} (h : tSeatOk f φ l) (e : ∀ r, r < 8 → f' r = f r) : tSeatOk f' φ l := ⟨fun r hr => by rw [e r hr]; exact h.1 r hr, h.2⟩
theorem ca6O : zCast 6 "java/lang/Object" := ca_6_J29
section ZPH
variable {G : zG} {μ : zM} {p o : Nat} {P : zP} {A : Nat → Nat → Nat} {c : Nat → Int32}
theorem tBookAdd_o {s i j s0 : Nat} {se sc bd : Int32} (h : ¬ (s = 4 ∧ i = pcn P 10) ∧ ¬ (s = 0 ∧ i = 0 ∧ j = 10)) : tBookAdd P s0 se sc bd s i j = P s i j := by
  unfold tBookAdd tBk0
  rw [updP_ne (by omega), tRows_o (by omega), updP_ne (by omega), updP_ne (by omega), updP_ne (by omega), updP_ne (by omega), updP_ne (by omega), updP_ne (by omega), updP_ne (by omega), updP_ne (by omega)]
theorem tBookAdd_cn {s0 : Nat} {se sc bd : Int32} (hn : pcn P 10 < 80) : pcn (tBookAdd P s0 se sc bd) 10 = pcn P 10 + 1 := by
  unfold tBookAdd pcn
  rw [updP_eq]
  exact nI_clamp (by have : pcn P 10 + 1 < 2 ^ 31 := by omega
                     exact this)
theorem tBookAdd_n {s0 j : Nat} {se sc bd : Int32} (hj : j < 8) : tBookAdd P s0 se sc bd 4 (pcn P 10) j = match j with | 0 => nI s0 | 1 => se | 2 => sc | 3 => bd | 4 => 0 | 5 => tCost P s0 se sc | _ => 0 := by
  unfold tBookAdd tBk0
  rw [updP_ne (by omega), tRows_o (by omega)]
  have hj' : j = 0 ∨ j = 1 ∨ j = 2 ∨ j = 3 ∨ j = 4 ∨ j = 5 ∨ j = 6 ∨ j = 7 := by omega
  rcases hj' with rfl | rfl | rfl | rfl | rfl | rfl | rfl | rfl
  · rw [updP_ne (by omega), updP_ne (by omega), updP_ne (by omega), updP_ne (by omega), updP_ne (by omega), updP_ne (by omega), updP_ne (by omega), updP_eq]; rfl
  · rw [updP_ne (by omega), updP_ne (by omega), updP_ne (by omega), updP_ne (by omega), updP_ne (by omega), updP_ne (by omega), updP_eq]; rfl
  · rw [updP_ne (by omega), updP_ne (by omega), updP_ne (by omega), updP_ne (by omega), updP_ne (by omega), updP_eq]; rfl
  · rw [updP_ne (by omega), updP_ne (by omega), updP_ne (by omega), updP_ne (by omega), updP_eq]; rfl
  · rw [updP_ne (by omega), updP_ne (by omega), updP_ne (by omega), updP_eq]; rfl
  · rw [updP_ne (by omega), updP_ne (by omega), updP_eq]; rfl
  · rw [updP_ne (by omega), updP_eq]; rfl
  · rw [updP_eq]; rfl
theorem tBookAdd_r {s0 j : Nat} {se sc bd : Int32} (hj : j < 8) : tBookAdd P s0 se sc bd 4 (pcn P 10) (8 + j) = (tSeat P s0 se).2 j := by
  unfold tBookAdd
  rw [updP_ne (by omega)]
  unfold tRows
  rw [if_pos ⟨rfl, rfl, by omega, by omega⟩, Nat.add_sub_cancel_left]
theorem tBookAdd_free {s0 i j : Nat} {se sc bd : Int32} (hj : j < 8) (hn : pcn P 10 < 80) : tFreeIn (tBookAdd P s0 se sc bd) (nI i) j = tFreeIn P (nI i) j - (if nI s0 = nI i then (tSeat P s0 se).2 j else 0) := by
  unfold tFreeIn
  rw [tBookAdd_cn hn]
  show tFreeInF _ _ _ _ - _ = _
  rw [tBookAdd_r hj, tBookAdd_n (j := 0) (by decide)]
  rw [tFreeInF_congr (P := P) (pcn P 10) (fun b hb => ⟨tBookAdd_o (by omega), tBookAdd_o (by omega)⟩)]
  rfl
/-- what book leaves -/
def zBkP (G : zG) (μ : zM) (p o : Nat) (P : zP) (A : Nat → Nat → Nat) (c : Nat → Int32) (s : Nat) (se sc bd : Int32) : Option Value → zM → Prop := fun v μ' => v = some (.int (nI (pcn P 10))) ∧ (∃ x, zPR G μ' p o (tBookAdd P s se sc bd) (zA1 A 4 (pcn P 10) x) (upd c 4 (c 4 + 1))) ∧ zKp (zKo o) μ μ'
set_option maxHeartbeats 16000000 in
theorem C_book {s n : Nat} {sc : Int32} {pb : Prop} [hdp : Decidable pb] {φ : Nat → Nat} (h : zPR G μ p o P A c) (hO : tOk P) (hs : s < pcn P 9) (hKi : tKi P) (hsc : sc = -6 ∨ 0 ≤ sc) (hok : tSeatOk (tFreeIn P (nI s)) φ n) (hn : pcn P 10 < 80) : Meets G 9 MX1_book [.ref p, .int (nI s), .int (nI n), .int sc, .int (zB pb)] μ (zBkP G μ p o P A c s (nI n) sc (zB pb)) 3 (2 * pcn P 10 + 26) := by
  have hp := h.1
  obtain ⟨fse, hse, hsf⟩ := h.2.1
  obtain ⟨ki1, ki2⟩ := hKi s hs
  have s60 : pcn P 9 ≤ 60 := hO.s.2
  have k10 : pcn P 7 ≤ 10 := hO.k.2
  have hLs := h.lsh
  obtain ⟨_, chLs⟩ := hLs.cell
  have hLk := h.lki
  obtain ⟨_, chLk⟩ := hLk.cell
  have hLb := h.lbk
  obtain ⟨_, chLb⟩ := hLb.cell
  have hki := h.ki ki2
  obtain ⟨t, fr, f2, hsh, htm, hfr, hf2⟩ := h.sh hs
  rw [ki1] at hsh
  have hoz : obT 4 (pcn P 10) o ≠ zC := obT_nz
  have haz : oaT 4 (pcn P 10) o ≠ zC := oaT_nz
  have hsz : oaT 3 s o ≠ zC := oaT_nz
  have hlz : lsT 4 o ≠ zC := fun e => by have e1 : 20010 + 2 * 4 = 0 := congrArg Prod.fst e; omega
  have hraz : laT 4 o ≠ zC := fun e => by have e1 : 20011 + 2 * 4 = 0 := congrArg Prod.fst e; omega
  have hll : lsT 4 o ≠ laT 4 o := fun e => by have e1 : 20010 + 2 * 4 = 20011 + 2 * 4 := congrArg Prod.fst e; omega
  have fin : ∀ x : Int32, nI n * x = tCost P s (nI n) sc → AW G 9 MX1_book (zBkP G μ p o P A c s (nI n) sc (zB pb)) (((0 + 1) + 1) + 1) (((0 + (2 * pcn P 10 + 10)) + 8) + 8) 60 [(0, .ref p), (1, .int (nI s)), (2, .int (nI n)), (3, .int sc), (4, .int (zB pb)), (5, .ref (A 3 s)), (6, .int (P 1 (tKd P s) 2))] [.int x] μ := by
    intro x hx
    refine aw_istore (q := 62) dX1_book_60 (by decide) rfl ?_
    first | refine aw_new (q := 65) dX1_book_62 nw_X1_85 (obT 4 (pcn P 10) o) (by first | assumption | simp) rfl (fun b μ1 hn_b hg_μ1 => ?_) | (refine AW.sub (bc' := 1) (bs' := 8) (by omega) (by omega) ?_; refine aw_new (q := 65) dX1_book_62 nw_X1_85 (obT 4 (pcn P 10) o) (by first | assumption | simp) rfl (fun b μ1 hn_b hg_μ1 => ?_))
    have h_b : μ1 b = some _ := hg_μ1 ▸ updM_eq _ _ _
    have hk1 : zKp (fun _ u => u = oaT 3 s o) μ μ1 := hg_μ1 ▸ zKp.new hn_b
    refine aw_dup (q := 66) dX1_book_65 (by first | rfl | exact zcat_rf _) rfl ?_
    refine aw_iload_n (i := 1) (q := 67) dX1_book_66 rfl rfl rfl ?_
    refine aw_iload_n (i := 2) (q := 68) dX1_book_67 rfl rfl rfl ?_
    refine aw_iload_n (i := 3) (q := 69) dX1_book_68 rfl rfl rfl ?_
    refine aw_iload (q := 71) dX1_book_69 rfl rfl ?_
    refine aw_iload_n (i := 2) (q := 72) dX1_book_71 rfl rfl rfl ?_
    refine aw_iload (q := 74) dX1_book_72 rfl rfl ?_
    refine aw_imul (q := 75) dX1_book_74 rfl ?_
    rw [hx]
    refine aw_callI (q := 78) dX1_book_75 (C_Bk_init2 (uf := oaT 4 (pcn P 10) o) h_b hoz haz) ci_X1_192 rfl rfl (by decide) (by decide) (by first | exact Nat.le_of_ble_eq_true rfl | simp [zcat_rf, Value.category]) rfl (fun v75 μ2 hp => ?_)
    obtain ⟨rfl, r, f', q1, q2, q3, q4, q5, q6⟩ := hp
    have hk2 : zKp (fun _ u => u = oaT 3 s o) μ μ2 := fun a t e ha hna => q6 a t e (hk1 a t e ha hna) (fun z => by rw [z, hn_b] at ha; cases ha)
    have hrn : μ r = none := by
      cases hz : μ r with
      | none => rfl
      | some v => exact absurd ((hg_μ1 ▸ (updM_ne q1).trans hz : μ1 r = some v).symm.trans q2) (by simp)
    have hsh2 : μ2 (A 3 s) = _ := hk2 _ _ _ hsh (fun z => by have e1 : 30000 + 1000 * 3 + 2 * s = 30001 + 1000 * 3 + 2 * s := congrArg Prod.fst z; omega)
    have hfr2 : μ2 fr = some (oaT 3 s o, aI G 8 f2) := by
      refine q6 _ _ _ (hg_μ1 ▸ (updM_ne (zneN hfr hn_b)).trans hfr) (zneN hfr hn_b)
    have hne : oaT 3 s o ≠ oaT 4 (pcn P 10) o := fun e => by
      have e1 : 30001 + 1000 * 3 + 2 * s = 30001 + 1000 * 4 + 2 * pcn P 10 := congrArg Prod.fst e
      omega
    first | refine aw_astore (q := 80) dX1_book_78 (by decide) rfl ?_ | refine aw_astoreN (q := 80) dX1_book_78 (by decide) rfl ?_ | refine aw_astoreQ (q := 80) dX1_book_78 (by decide) rfl ?_
    first | refine aw_aload (q := 82) dX1_book_80 rfl rfl ?_ | refine aw_aloadN (q := 82) dX1_book_80 rfl rfl ?_ | refine aw_aloadQ (q := 82) dX1_book_80 rfl rfl ?_
    first | refine aw_aload (q := 84) dX1_book_82 rfl rfl ?_ | refine aw_aloadN (q := 84) dX1_book_82 rfl rfl ?_ | refine aw_aloadQ (q := 84) dX1_book_82 rfl rfl ?_
    refine aw_getfield (q := 87) dX1_book_84 gf_X1_195_6 (by assumption) rfl rfl ?_
    refine aw_iload_n (i := 2) (q := 88) dX1_book_87 rfl rfl rfl ?_
    refine aw_z ?_
    refine aw_callV (q := 91) dX1_book_88 (C_Show_seat (φ := φ) hsh2 hfr2 q4 hsz haz hne (hok.congr hf2)) cv_X1_198_5 (by assumption) rfl rfl (by decide) (by decide) (by first | exact Nat.le_of_ble_eq_true rfl | simp [zcat_rf, Value.category]) rfl (fun v88 μ3 hp => ?_)
    obtain ⟨rfl, w1, w2, w3⟩ := hp
    have hk3 : zKp (fun _ u => u = oaT 3 s o) μ μ3 := fun a t e ha hna => w3 a t e (hk2 a t e ha hna) (fun z => by
      rcases z with z | z
      · rw [z, hfr] at ha; cases ha; exact hna rfl
      · rw [z, hrn] at ha; cases ha)
    have hb3 := w3 _ _ _ q3 (fun z => by
      rcases z with z | z
      · exact zneq q3 hfr2 (by simp) z
      · exact q1 z.symm)
    have lo3 : ∀ m, m < 30000 → (m, o) ≠ oaT 3 s o := fun m hm e => by have e1 : m = 30001 + 1000 * 3 + 2 * s := congrArg Prod.fst e; omega
    have hp3 := hk3 _ _ _ hp (lo3 _ (by omega))
    have hL3 := hLb.kp hk3 (fun _ => lo3 _ (by omega)) (fun _ => lo3 _ (by omega))
    obtain ⟨_, chL3⟩ := hL3.cell
    have hel : ∀ i, i < pcn P 10 → zOb μ3 (A 4 i) := fun i hi => by
      obtain ⟨ri, fi, hi1, -, -⟩ := h.bk hi
      exact ⟨_, _, _, hk3 _ _ _ hi1 (fun e => by have e1 : 30000 + 1000 * 4 + 2 * i = 30001 + 1000 * 3 + 2 * s := congrArg Prod.fst e; omega), ca6O⟩
    first | refine aw_aload_n (i := 0) (q := 92) dX1_book_91 rfl rfl rfl ?_ | refine aw_aloadN_n (i := 0) (q := 92) dX1_book_91 rfl rfl rfl ?_ | refine aw_aloadQ_n (i := 0) (q := 92) dX1_book_91 rfl rfl rfl ?_
    refine aw_getfield (q := 95) dX1_book_92 gf_X1_28_1 (by assumption) rfl rfl ?_
    first | refine aw_aload (q := 97) dX1_book_95 rfl rfl ?_ | refine aw_aloadN (q := 97) dX1_book_95 rfl rfl ?_ | refine aw_aloadQ (q := 97) dX1_book_95 rfl rfl ?_
    refine aw_callF (q := 102) dX1_book_97 (C_AL_add hL3 ⟨_, _, _, hb3, ca6O⟩ hlz hraz hll (by omega) hel) cf_X1_71_14 (by assumption) rfl rfl (by decide) (by decide) (by first | exact Nat.le_of_ble_eq_true rfl | simp [zcat_rf, Value.category]) rfl (fun v97 μ4 hp => ?_)
    obtain ⟨rfl, hL4, k4⟩ := hp
    obtain ⟨_, chL4⟩ := hL4.cell
    have nl : ∀ (a : Nat) (m : Nat), 30000 ≤ m → ¬ zTg (lsT 4 o) (laT 4 o) a (m, o) := fun a m hm q => by
      rcases q with q | q
      · have e1 : m = 20010 + 2 * 4 := congrArg Prod.fst q
        omega
      · have e1 : m = 20011 + 2 * 4 := congrArg Prod.fst q
        omega
    have hp4 := k4 _ _ _ hp3 (fun q => by
      rcases q with q | q
      · have e1 : 20000 + 0 = 20010 + 2 * 4 := congrArg Prod.fst q
        omega
      · have e1 : 20000 + 0 = 20011 + 2 * 4 := congrArg Prod.fst q
        omega)
    have hsh3 : μ3 (A 3 s) = _ := w3 _ _ _ hsh2 (fun z => by
      rcases z with z | z
      · exact zneq hsh2 hfr2 (by simp) z
      · exact zneq hsh2 q4 (by simp) z)
    have hk4 : zKp (fun _ u => (u = lsT 4 o ∨ u = laT 4 o) ∨ u = oaT 3 s o) μ μ4 := (hk3.mono (fun _ _ q => Or.inr q)).tr (k4.mono (fun _ _ q => Or.inl q))
    have hdone : zPR G μ4 p o (tBookAdd P s (nI n) sc (zB pb)) (zA1 A 4 (pcn P 10) b) (upd c 4 (c 4 + 1)) := by
      refine h.add (s0 := 4) (B := fun s' i => s' = 3 ∧ i = s) hO (Or.inr (Or.inr (Or.inr (Or.inl rfl)))) hk4 ?_ (fun j hj => tBookAdd_o (by omega)) (tBookAdd_cn hn) hL4 ?_ ?_ ?_
      · rintro a u (q | q)
        · exact Or.inl q
        · exact Or.inr ⟨3, s, Or.inr (Or.inr (Or.inl rfl)), by omega, ⟨rfl, rfl⟩, Or.inr q⟩
      · refine ⟨r, _, ?_, k4 _ _ _ w2 (nl _ _ (by omega)), fun j hj => ?_⟩
        · show μ4 b = some (obT 4 (pcn P 10) o, oBk (tBookAdd P s (nI n) sc (zB pb) 4 (pcn P 10) 0) (tBookAdd P s (nI n) sc (zB pb) 4 (pcn P 10) 1) (tBookAdd P s (nI n) sc (zB pb) 4 (pcn P 10) 2) (tBookAdd P s (nI n) sc (zB pb) 4 (pcn P 10) 3) (tBookAdd P s (nI n) sc (zB pb) 4 (pcn P 10) 5) (tBookAdd P s (nI n) sc (zB pb) 4 (pcn P 10) 4) (tBookAdd P s (nI n) sc (zB pb) 4 (pcn P 10) 6) r)
          rw [tBookAdd_n (by decide), tBookAdd_n (by decide), tBookAdd_n (by decide), tBookAdd_n (by decide), tBookAdd_n (by decide), tBookAdd_n (by decide), tBookAdd_n (by decide)]
          exact k4 _ _ _ hb3 (nl _ _ (by omega))
        · show _ = tBookAdd P s (nI n) sc (zB pb) 4 (pcn P 10) (8 + j)
          rw [tBookAdd_r hj, tSeatN_congr2 41 f2 f' (fun _ => 0) _ q5 j hj]
          exact congrFun (tSeatN_congr 41 f2 (tFreeIn P (nI s)) (fun _ => 0) (nI n) hf2).1 j
      · rintro s' i - hi ⟨rfl, rfl⟩
        refine ⟨t, fr, _, ?_, ?_, k4 _ _ _ w1 (nl _ _ (by omega)), fun j hj => ?_⟩
        · rw [tBookAdd_o (by omega), tBookAdd_o (by omega), tBookAdd_o (by omega), tBookAdd_o (by omega), tBookAdd_o (by omega), ki1]
          exact k4 _ _ _ hsh3 (nl _ _ (by omega))
        · rw [tBookAdd_o (by omega), tBookAdd_o (by omega)]
          refine hk4 _ _ _ htm ?_
          rintro ((q | q) | q)
          · have e1 : 0 = 20010 + 2 * 4 := congrArg Prod.fst q
            omega
          · have e1 : 0 = 20011 + 2 * 4 := congrArg Prod.fst q
            omega
          · have e1 : 0 = 30001 + 1000 * 3 + 2 * i := congrArg Prod.fst q
            omega
        · rw [tBookAdd_free hj hn, if_pos rfl]
          have e1 := tSeatN_sum 41 f2 f' (nI n) j
          have e2 := tSeatN_congr2 41 f2 f' (fun _ => 0) (nI n) q5 j hj
          have e3 : (tSeatN 41 f2 (fun _ => 0) (nI n)).2 j = (tSeat P i (nI n)).2 j := congrFun (tSeatN_congr 41 f2 (tFreeIn P (nI i)) (fun _ => 0) (nI n) hf2).1 j
          rw [q5 j hj, Int32.add_zero, hf2 j hj, e2, e3] at e1
          rw [← e1, Int32.add_sub_cancel]
      · intro s' i hs' hi hB
        have sl := hs'.lt
        have ip := hO.pb hs'
        refine ⟨fun j hj => tBookAdd_o ⟨fun z => by obtain ⟨z1, z2⟩ := z; subst z1; have hi : i < pcn P 10 := hi; omega, by omega⟩, fun e3 j hj => ?_⟩
        subst e3
        rw [tBookAdd_free hj hn, if_neg (fun q => hB ⟨rfl, ((nI_eq (by omega) (by omega)).mp q).symm⟩), Int32.sub_zero]
    refine aw_pop (q := 103) dX1_book_102 (by first | rfl | exact zcat_rf _) rfl ?_
    first | refine aw_aload_n (i := 0) (q := 104) dX1_book_103 rfl rfl rfl ?_ | refine aw_aloadN_n (i := 0) (q := 104) dX1_book_103 rfl rfl rfl ?_ | refine aw_aloadQ_n (i := 0) (q := 104) dX1_book_103 rfl rfl rfl ?_
    refine aw_getfield (q := 107) dX1_book_104 gf_X1_28_1 (by assumption) rfl rfl ?_
    refine aw_z ?_
    refine aw_callF (q := 112) dX1_book_107 (C_AL_size hL4) cf_X1_111_14 (by assumption) rfl rfl (by decide) (by decide) (by first | exact Nat.le_of_ble_eq_true rfl | simp [zcat_rf, Value.category]) rfl (zpk ?_)
    refine aw_iconst (v := 1) (q := 113) dX1_book_112 rfl rfl ?_
    refine aw_isub (q := 114) dX1_book_113 rfl ?_
    have hk5 : zKp (zKo o) μ μ4 := hk4.mono (fun a u q => by
      rcases q with (q | q) | q
      · subst q; exact ⟨rfl, by show 20000 ≤ 20010 + 2 * 4; omega⟩
      · subst q; exact ⟨rfl, by show 20000 ≤ 20011 + 2 * 4; omega⟩
      · subst q; exact zKo.oa)
    exact aw_ireturn dX1_book_114 rfl (by first | rfl | exact zB_nar _) (⟨by rw [nI_pred], ⟨b, hdone⟩, hk5⟩)
  refine meets_of (by decide +kernel) (Nat.le_of_ble_eq_true rfl) ?_
  refine AW.bud (bc' := ((0 + 1) + 1) + 1) (bs' := ((0 + (2 * pcn P 10 + 10)) + 8) + 8) ?_ (by omega) (by omega)
  first | refine aw_aload_n (i := 0) (q := 1) dX1_book_0 rfl rfl rfl ?_ | refine aw_aloadN_n (i := 0) (q := 1) dX1_book_0 rfl rfl rfl ?_ | refine aw_aloadQ_n (i := 0) (q := 1) dX1_book_0 rfl rfl rfl ?_
  refine aw_getfield (q := 4) dX1_book_1 gf_X1_25_1 (by assumption) rfl rfl ?_
  refine aw_iload_n (i := 1) (q := 5) dX1_book_4 rfl rfl rfl ?_
  refine aw_z ?_
  refine aw_callF (q := 10) dX1_book_5 (C_AL_get hLs hs (by omega)) cf_X1_115_14 (by assumption) rfl rfl (by decide) (by decide) (by first | exact Nat.le_of_ble_eq_true rfl | simp [zcat_rf, Value.category]) rfl (zpk ?_)
  refine aw_cast (q := 13) dX1_book_10 q535 hsh ca_5_X5 rfl ?_
  first | refine aw_astore (q := 15) dX1_book_13 (by decide) rfl ?_ | refine aw_astoreN (q := 15) dX1_book_13 (by decide) rfl ?_ | refine aw_astoreQ (q := 15) dX1_book_13 (by decide) rfl ?_
  first | refine aw_aload_n (i := 0) (q := 16) dX1_book_15 rfl rfl rfl ?_ | refine aw_aloadN_n (i := 0) (q := 16) dX1_book_15 rfl rfl rfl ?_ | refine aw_aloadQ_n (i := 0) (q := 16) dX1_book_15 rfl rfl rfl ?_
  refine aw_getfield (q := 19) dX1_book_16 gf_X1_18_1 (by assumption) rfl rfl ?_
  first | refine aw_aload (q := 21) dX1_book_19 rfl rfl ?_ | refine aw_aloadN (q := 21) dX1_book_19 rfl rfl ?_ | refine aw_aloadQ (q := 21) dX1_book_19 rfl rfl ?_
  refine aw_getfield (q := 24) dX1_book_21 gf_X1_186_5 (by assumption) rfl rfl ?_
  refine aw_z ?_
  refine aw_callF (q := 29) dX1_book_24 (C_AL_get hLk ki2 (by omega)) cf_X1_115_14 (by assumption) rfl rfl (by decide) (by decide) (by first | exact Nat.le_of_ble_eq_true rfl | simp [zcat_rf, Value.category]) rfl (zpk ?_)
  refine aw_cast (q := 32) dX1_book_29 q415 hki ca_3_X3 rfl ?_
  refine aw_getfield (q := 35) dX1_book_32 gf_X1_189_3 (by assumption) rfl rfl ?_
  refine aw_istore (q := 37) dX1_book_35 (by decide) rfl ?_
  try simp (config := {decide := true}) only [zput, zdel_q, zdel_f, zdel_t, zdel_nil, zdel_r, zdel_i, zdel_n]
  refine aw_iload_n (i := 3) (q := 38) dX1_book_37 rfl rfl rfl ?_
  refine aw_bipush (v := (-6)) (q := 40) dX1_book_38 rfl rfl ?_
  refine aw_icmp_ne (tgt := 48) (q := 43) dX1_book_40 (by decide) rfl (fun c1 => ?_) (fun c1 => ?_)
  · refine aw_iload (q := 50) dX1_book_48 rfl rfl ?_
    first | refine aw_aload_n (i := 0) (q := 51) dX1_book_50 rfl rfl rfl ?_ | refine aw_aloadN_n (i := 0) (q := 51) dX1_book_50 rfl rfl rfl ?_ | refine aw_aloadQ_n (i := 0) (q := 51) dX1_book_50 rfl rfl rfl ?_
    refine aw_getfield (q := 54) dX1_book_51 gf_X1_9_1 (by assumption) rfl rfl ?_
    refine aw_iconst (v := 4) (q := 55) dX1_book_54 rfl rfl ?_
    refine aw_iald (q := 56) (v := P 0 0 4) (4) dX1_book_55 (by assumption) (by first | assumption | (simp only [← nI_add, ← pk_mul]; rfl) | rfl) (by omega) (by omega) (hsf 4 (by decide)) rfl ?_
    refine aw_imul (q := 57) dX1_book_56 rfl ?_
    refine aw_bipush (v := 100) (q := 59) dX1_book_57 rfl rfl ?_
    refine aw_idiv (q := 60) dX1_book_59 (by decide) rfl ?_
    exact aw_locals (by exact ⟨rfl, rfl, rfl, rfl, rfl, rfl, rfl, trivial⟩) (fin _ (by unfold tCost; rw [if_pos (hsc.resolve_left c1)]))
  · skip
    refine aw_iload (q := 45) dX1_book_43 rfl rfl ?_
    refine aw_goto (tgt := 60) dX1_book_45 (by decide) ?_
    exact aw_locals (by exact ⟨rfl, rfl, rfl, rfl, rfl, rfl, rfl, trivial⟩) (fin _ (by unfold tCost; rw [if_neg (by rw [c1]; decide)]))
end ZPH
