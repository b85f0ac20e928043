/-! THE PROGRAMME: seats are given back, a booking is added -/
set_option maxRecDepth 100000
theorem aw_z {G : zG} {d : Nat} {Y : zMI} {post : Option Value → zM → Prop} {bc bs pc : Nat} {L : List (Nat × Value)} {S : List Value} {μ : zM} (k : AW G d Y post (bc + 0) (bs + 0) pc L S μ) : AW G d Y post bc bs pc L S μ := k
section ZPF
variable {G : zG} {μ : zM} {p o : Nat} {P : zP} {A : Nat → Nat → Nat} {c : Nat → Int32}
abbrev zA1 (A : Nat → Nat → Nat) (s0 n x : Nat) : Nat → Nat → Nat := fun s => if s = s0 then upN (A s0) n x else A s
/-- an object is added to a list -/
theorem zPR.add {T : Nat → zT → Prop} {μ' : zM} {P' : zP} {B : Nat → Nat → Prop} {s0 x : Nat} {cs : Int32} (h : zPR G μ p o P A c) (hO : tOk P) (hs0 : zS s0) (hk : zKp T μ μ') (hT : ∀ b u, T b u → (u = lsT s0 o ∨ u = laT s0 o) ∨ ∃ s i, zS s ∧ i < 400 ∧ B s i ∧ (u = obT s i o ∨ u = oaT s i o)) (h0 : ∀ j, j ≠ 6 + s0 → P' 0 0 j = P 0 0 j) (hcn : pcn P' (6 + s0) = pcn P (6 + s0) + 1) (hL : zAL G μ' (lsT s0 o) (laT s0 o) (A 7 s0) cs (pcn P (6 + s0) + 1) (upN (A s0) (pcn P (6 + s0)) x)) (hx : zO G μ' o P' x s0 (pcn P (6 + s0))) (hB : ∀ s i, zS s → i < pcn P (6 + s) → B s i → zO G μ' o P' (A s i) s i) (hN : ∀ s i, zS s → i < pcn P (6 + s) → ¬ B s i → zSm P P' s i) : zPR G μ' p o P' (zA1 A s0 (pcn P (6 + s0)) x) (upd c s0 cs) := by
  obtain ⟨h1, ⟨f, h2, h3⟩, h4⟩ := h
  have s0l := hs0.lt
  have s05 : s0 ≠ 5 := by unfold zS at hs0; omega
  have lo : ∀ b n, n < 30000 → n ≠ 20010 + 2 * s0 → n ≠ 20011 + 2 * s0 → ¬ T b (n, o) := by
    rintro b n hn n1 n2 q
    rcases hT _ _ q with (q | q) | ⟨s, i, -, -, -, q | q⟩
    · exact n1 (congrArg Prod.fst q)
    · exact n2 (congrArg Prod.fst q)
    · have e : n = 30000 + 1000 * s + 2 * i := congrArg Prod.fst q
      omega
    · have e : n = 30001 + 1000 * s + 2 * i := congrArg Prod.fst q
      omega
  have lo0 : ∀ b, ¬ T b (0, 0) := by
    rintro b q
    rcases hT _ _ q with (q | q) | ⟨s, i, -, -, -, q | q⟩
    · have e : 0 = 20010 + 2 * s0 := congrArg Prod.fst q
      omega
    · have e : 0 = 20011 + 2 * s0 := congrArg Prod.fst q
      omega
    · have e : 0 = 30000 + 1000 * s + 2 * i := congrArg Prod.fst q
      omega
    · have e : 0 = 30001 + 1000 * s + 2 * i := congrArg Prod.fst q
      omega
  have ec : ∀ j, j ≠ 6 + s0 → pcn P' j = pcn P j := fun j hj => by unfold pcn; rw [h0 j hj]
  have ob : ∀ s i, zS s → i < pcn P (6 + s) → zO G μ' o P' (A s i) s i := by
    intro s i hs hi
    have sl := hs.lt
    by_cases hb : B s i
    · exact hB s i hs hi hb
    · have hib := hO.pb hs
      refine ((h4 s hs).2 i hi).kp hs hk lo0 (fun b q => ?_) (fun b q => ?_) (hN s i hs hi hb)
      · rcases hT _ _ q with (q | q) | ⟨s', i', hs', hi', hb', q | q⟩
        · have e : 30000 + 1000 * s + 2 * i = 20010 + 2 * s0 := congrArg Prod.fst q
          omega
        · have e : 30000 + 1000 * s + 2 * i = 20011 + 2 * s0 := congrArg Prod.fst q
          omega
        · have e : 30000 + 1000 * s + 2 * i = 30000 + 1000 * s' + 2 * i' := congrArg Prod.fst q
          have es : s = s' := by omega
          have ei : i = i' := by omega
          exact hb (es ▸ ei ▸ hb')
        · have e : 30000 + 1000 * s + 2 * i = 30001 + 1000 * s' + 2 * i' := congrArg Prod.fst q
          omega
      · rcases hT _ _ q with (q | q) | ⟨s', i', hs', hi', hb', q | q⟩
        · have e : 30001 + 1000 * s + 2 * i = 20010 + 2 * s0 := congrArg Prod.fst q
          omega
        · have e : 30001 + 1000 * s + 2 * i = 20011 + 2 * s0 := congrArg Prod.fst q
          omega
        · have e : 30001 + 1000 * s + 2 * i = 30000 + 1000 * s' + 2 * i' := congrArg Prod.fst q
          omega
        · have e : 30001 + 1000 * s + 2 * i = 30001 + 1000 * s' + 2 * i' := congrArg Prod.fst q
          have es : s = s' := by omega
          have ei : i = i' := by omega
          exact hb (es ▸ ei ▸ hb')
  have A0 : zA1 A s0 (pcn P (6 + s0)) x 0 = A 0 := if_neg (by omega)
  have A7 : zA1 A s0 (pcn P (6 + s0)) x 7 = A 7 := if_neg (by omega)
  refine ⟨?_, ⟨f, ?_, fun j hj => (h3 j hj).trans (h0 j (by omega)).symm⟩, fun s hs => ?_⟩
  · show μ' p = some (pgT 0 o, .inr (1, [.ref (zA1 A s0 (pcn P (6 + s0)) x 0 0), .ref (zA1 A s0 (pcn P (6 + s0)) x 7 1), .ref (zA1 A s0 (pcn P (6 + s0)) x 7 2), .ref (zA1 A s0 (pcn P (6 + s0)) x 7 3), .ref (zA1 A s0 (pcn P (6 + s0)) x 7 4), .ref (zA1 A s0 (pcn P (6 + s0)) x 7 6), .ref (zA1 A s0 (pcn P (6 + s0)) x 0 1), .ref (zA1 A s0 (pcn P (6 + s0)) x 0 2), .int (P' 0 0 11), .int (P' 0 0 6), .int (upd c s0 cs 0)]))
    rw [A0, A7, h0 11 (by omega), h0 6 (by omega), pk_un (by omega)]
    exact hk _ _ _ h1 (lo _ _ (by omega) (by omega) (by omega))
  · rw [A0]
    exact hk _ _ _ h2 (lo _ _ (by omega) (by omega) (by omega))
  · obtain ⟨g1, g2⟩ := h4 s hs
    have sl := hs.lt
    rw [A7]
    by_cases e : s = s0
    · subst e
      have As : zA1 A s (pcn P (6 + s)) x s = upN (A s) (pcn P (6 + s)) x := if_pos rfl
      rw [As, pk_us, hcn]
      refine ⟨hL, fun i hi => ?_⟩
      by_cases ei : i = pcn P (6 + s)
      · subst ei; rw [upN_eq]; exact hx
      · rw [upN_ne ei]; exact ob s i hs (by omega)
    · have As : zA1 A s0 (pcn P (6 + s0)) x s = A s := if_neg e
      rw [As, pk_un e, ec _ (by omega)]
      exact ⟨g1.kp hk (fun b => lo _ _ (by omega) (by omega) (by omega)) (fun b => lo _ _ (by omega) (by omega) (by omega)), fun i hi => ob s i hs hi⟩
theorem pk100 : (100 : Int32) ≠ 0 := by decide
set_option maxHeartbeats 16000000 in
theorem C_giveBack {b : Nat} (h : zPR G μ p o P A c) (hO : tOk P) (hB : tBkOk P) (hb : b < pcn P 10) : Meets G 6 MX1_giveBack [.ref p, .ref (A 4 b)] μ (fun v μ' => v = some (.int (tBack P b)) ∧ zPR G μ' p o (tVacate (tTally P b 4) b 3 (tBack P b)) A c ∧ zKp (zKo o) μ μ') 1 4 := by
  have hp := h.1
  obtain ⟨fse, hse, hsf⟩ := h.2.1
  obtain ⟨bs1, bs2⟩ := hB b hb
  have s60 : pcn P 9 ≤ 60 := hO.s.2
  have hLs := h.lsh
  obtain ⟨_, chLs⟩ := hLs.cell
  obtain ⟨r, f, hob, -, -⟩ := h.bk hb
  obtain ⟨t, fr, f2, hsh, htm, -, -⟩ := h.sh bs2
  rw [bs1] at hob
  have fin : ∀ x, x = tBack P b → AW G 6 MX1_giveBack (fun v μ' => v = some (.int (tBack P b)) ∧ zPR G μ' p o (tVacate (tTally P b 4) b 3 (tBack P b)) A c ∧ zKp (zKo o) μ μ') (0 + 1) (0 + 4) 69 [(0, .ref p), (1, .ref (A 4 b)), (2, .ref (A 3 (tSh P b))), (3, .int (P 3 (tSh P b) 1 - P 0 0 6))] [.int x] μ := by
    rintro x rfl
    refine aw_istore (q := 71) dX1_giveBack_69 (by decide) rfl ?_
    first | refine aw_aload_n (i := 0) (q := 72) dX1_giveBack_71 rfl rfl rfl ?_ | refine aw_aloadN_n (i := 0) (q := 72) dX1_giveBack_71 rfl rfl rfl ?_ | refine aw_aloadQ_n (i := 0) (q := 72) dX1_giveBack_71 rfl rfl rfl ?_
    first | refine aw_aload_n (i := 1) (q := 73) dX1_giveBack_72 rfl rfl rfl ?_ | refine aw_aloadN_n (i := 1) (q := 73) dX1_giveBack_72 rfl rfl rfl ?_ | refine aw_aloadQ_n (i := 1) (q := 73) dX1_giveBack_72 rfl rfl rfl ?_
    refine aw_iconst (v := 4) (q := 74) dX1_giveBack_73 rfl rfl ?_
    refine aw_callV (q := 77) dX1_giveBack_74 (C_counts (w := 4) h hO hB hb (by decide)) cv_X1_165_1 (by assumption) rfl rfl (by decide) (by decide) (by first | exact Nat.le_of_ble_eq_true rfl | simp [zcat_rf, Value.category]) rfl (fun v74 μ1 hp => ?_)
    obtain ⟨rfl, h1, k1⟩ := hp
    obtain ⟨r1, f1, hob1, -, -⟩ := h1.bk (i := b) (by rw [tTally_cn]; exact hb)
    have es : tSh (tTally P b 4) b = tSh P b := tTally_same.sh b
    have hlv := C_leaves (st := 3) (rf := tBack P b) h1 (tTally_same.ok hO) (tTally_same.bkOk hB) (b := b) (by rw [tTally_cn]; exact hb)
    rw [es] at hlv
    first | refine aw_aload_n (i := 1) (q := 78) dX1_giveBack_77 rfl rfl rfl ?_ | refine aw_aloadN_n (i := 1) (q := 78) dX1_giveBack_77 rfl rfl rfl ?_ | refine aw_aloadQ_n (i := 1) (q := 78) dX1_giveBack_77 rfl rfl rfl ?_
    first | refine aw_aload_n (i := 2) (q := 79) dX1_giveBack_78 rfl rfl rfl ?_ | refine aw_aloadN_n (i := 2) (q := 79) dX1_giveBack_78 rfl rfl rfl ?_ | refine aw_aloadQ_n (i := 2) (q := 79) dX1_giveBack_78 rfl rfl rfl ?_
    refine aw_iconst (v := 3) (q := 80) dX1_giveBack_79 rfl rfl ?_
    refine aw_iload (q := 82) dX1_giveBack_80 rfl rfl ?_
    refine aw_z ?_
    refine aw_callV (q := 85) dX1_giveBack_82 (hlv) cv_X1_172_6 (by assumption) rfl rfl (by decide) (by decide) (by first | exact Nat.le_of_ble_eq_true rfl | simp [zcat_rf, Value.category]) rfl (fun v82 μ2 hp => ?_)
    obtain ⟨rfl, h2, k2⟩ := hp
    refine aw_iload (q := 87) dX1_giveBack_85 rfl rfl ?_
    exact aw_ireturn dX1_giveBack_87 rfl (by first | rfl | exact zB_nar _) (⟨rfl, h2, k1.tr k2⟩)
  refine meets_of (by decide +kernel) (Nat.le_of_ble_eq_true rfl) ?_
  refine AW.bud (bc' := 0 + 1) (bs' := 0 + 4) ?_ (by omega) (by omega)
  first | refine aw_aload_n (i := 0) (q := 1) dX1_giveBack_0 rfl rfl rfl ?_ | refine aw_aloadN_n (i := 0) (q := 1) dX1_giveBack_0 rfl rfl rfl ?_ | refine aw_aloadQ_n (i := 0) (q := 1) dX1_giveBack_0 rfl rfl rfl ?_
  refine aw_getfield (q := 4) dX1_giveBack_1 gf_X1_25_1 (by assumption) rfl rfl ?_
  first | refine aw_aload_n (i := 1) (q := 5) dX1_giveBack_4 rfl rfl rfl ?_ | refine aw_aloadN_n (i := 1) (q := 5) dX1_giveBack_4 rfl rfl rfl ?_ | refine aw_aloadQ_n (i := 1) (q := 5) dX1_giveBack_4 rfl rfl rfl ?_
  refine aw_getfield (q := 8) dX1_giveBack_5 gf_X1_155_6 (by assumption) rfl rfl ?_
  refine aw_z ?_
  refine aw_callF (q := 13) dX1_giveBack_8 (C_AL_get hLs bs2 (by omega)) cf_X1_115_14 (by assumption) rfl rfl (by decide) (by decide) (by first | exact Nat.le_of_ble_eq_true rfl | simp [zcat_rf, Value.category]) rfl (zpk ?_)
  refine aw_cast (q := 16) dX1_giveBack_13 q535 hsh ca_5_X5 rfl ?_
  first | refine aw_astore_n (i := 2) (q := 17) dX1_giveBack_16 rfl (by decide) rfl ?_ | refine aw_astoreN_n (i := 2) (q := 17) dX1_giveBack_16 rfl (by decide) rfl ?_ | refine aw_astoreQ_n (i := 2) (q := 17) dX1_giveBack_16 rfl (by decide) rfl ?_
  first | refine aw_aload_n (i := 2) (q := 18) dX1_giveBack_17 rfl rfl rfl ?_ | refine aw_aloadN_n (i := 2) (q := 18) dX1_giveBack_17 rfl rfl rfl ?_ | refine aw_aloadQ_n (i := 2) (q := 18) dX1_giveBack_17 rfl rfl rfl ?_
  refine aw_getfield (q := 21) dX1_giveBack_18 gf_X1_202_5 (by assumption) rfl rfl ?_
  refine aw_getfield (q := 24) dX1_giveBack_21 gf_X1_206_8 (by assumption) rfl rfl ?_
  first | refine aw_aload_n (i := 0) (q := 25) dX1_giveBack_24 rfl rfl rfl ?_ | refine aw_aloadN_n (i := 0) (q := 25) dX1_giveBack_24 rfl rfl rfl ?_ | refine aw_aloadQ_n (i := 0) (q := 25) dX1_giveBack_24 rfl rfl rfl ?_
  refine aw_getfield (q := 28) dX1_giveBack_25 gf_X1_105_1 (by assumption) rfl rfl ?_
  refine aw_isub (q := 29) dX1_giveBack_28 rfl ?_
  refine aw_istore_n (i := 3) (q := 30) dX1_giveBack_29 rfl (by decide) rfl ?_
  try simp (config := {decide := true}) only [zput, zdel_q, zdel_f, zdel_t, zdel_nil, zdel_r, zdel_i, zdel_n]
  refine aw_iload_n (i := 3) (q := 31) dX1_giveBack_30 rfl rfl rfl ?_
  first | refine aw_aload_n (i := 0) (q := 32) dX1_giveBack_31 rfl rfl rfl ?_ | refine aw_aloadN_n (i := 0) (q := 32) dX1_giveBack_31 rfl rfl rfl ?_ | refine aw_aloadQ_n (i := 0) (q := 32) dX1_giveBack_31 rfl rfl rfl ?_
  refine aw_getfield (q := 35) dX1_giveBack_32 gf_X1_9_1 (by assumption) rfl rfl ?_
  refine aw_iconst (v := 1) (q := 36) dX1_giveBack_35 rfl rfl ?_
  refine aw_iald (q := 37) (v := P 0 0 1) (1) dX1_giveBack_36 (by assumption) (by first | assumption | (simp only [← nI_add, ← pk_mul]; rfl) | rfl) (by omega) (by omega) (hsf 1 (by decide)) rfl ?_
  refine aw_icmp_lt (tgt := 47) (q := 40) dX1_giveBack_37 (by decide) rfl (fun c1 => ?_) (fun c1 => ?_)
  · refine aw_iload_n (i := 3) (q := 48) dX1_giveBack_47 rfl rfl rfl ?_
    refine aw_if_le (tgt := 68) (q := 51) dX1_giveBack_48 (by decide) rfl (fun c2 => ?_) (fun c2 => ?_)
    · skip
      have e : (0 : Int32) = tBack P b := by
        unfold tBack
        rw [if_neg (Int32.not_le.mpr c1), if_neg (Int32.not_lt.mpr c2)]
      refine aw_iconst (v := 0) (q := 69) dX1_giveBack_68 rfl rfl ?_
      exact aw_locals (by exact ⟨rfl, rfl, rfl, rfl, trivial⟩) (fin _ e)
    · first | refine aw_aload_n (i := 1) (q := 52) dX1_giveBack_51 rfl rfl rfl ?_ | refine aw_aloadN_n (i := 1) (q := 52) dX1_giveBack_51 rfl rfl rfl ?_ | refine aw_aloadQ_n (i := 1) (q := 52) dX1_giveBack_51 rfl rfl rfl ?_
      refine aw_getfield (q := 55) dX1_giveBack_52 gf_X1_169_6 (by assumption) rfl rfl ?_
      first | refine aw_aload_n (i := 0) (q := 56) dX1_giveBack_55 rfl rfl rfl ?_ | refine aw_aloadN_n (i := 0) (q := 56) dX1_giveBack_55 rfl rfl rfl ?_ | refine aw_aloadQ_n (i := 0) (q := 56) dX1_giveBack_55 rfl rfl rfl ?_
      refine aw_getfield (q := 59) dX1_giveBack_56 gf_X1_9_1 (by assumption) rfl rfl ?_
      refine aw_iconst (v := 2) (q := 60) dX1_giveBack_59 rfl rfl ?_
      refine aw_iald (q := 61) (v := P 0 0 2) (2) dX1_giveBack_60 (by assumption) (by first | assumption | (simp only [← nI_add, ← pk_mul]; rfl) | rfl) (by omega) (by omega) (hsf 2 (by decide)) rfl ?_
      have e : P 4 b 5 * P 0 0 2 / 100 = tBack P b := by
        unfold tBack
        rw [if_neg (Int32.not_le.mpr c1), if_pos (Int32.not_le.mp c2)]
      refine aw_imul (q := 62) dX1_giveBack_61 rfl ?_
      refine aw_bipush (v := 100) (q := 64) dX1_giveBack_62 rfl rfl ?_
      refine aw_idiv (q := 65) dX1_giveBack_64 (by decide) rfl ?_
      refine aw_goto (tgt := 69) dX1_giveBack_65 (by decide) ?_
      exact aw_locals (by exact ⟨rfl, rfl, rfl, rfl, trivial⟩) (fin _ e)
  · skip
    have e : P 4 b 5 = tBack P b := by
      unfold tBack
      rw [if_pos (Int32.not_lt.mp c1)]
    first | refine aw_aload_n (i := 1) (q := 41) dX1_giveBack_40 rfl rfl rfl ?_ | refine aw_aloadN_n (i := 1) (q := 41) dX1_giveBack_40 rfl rfl rfl ?_ | refine aw_aloadQ_n (i := 1) (q := 41) dX1_giveBack_40 rfl rfl rfl ?_
    refine aw_getfield (q := 44) dX1_giveBack_41 gf_X1_169_6 (by assumption) rfl rfl ?_
    refine aw_goto (tgt := 69) dX1_giveBack_44 (by decide) ?_
    exact aw_locals (by exact ⟨rfl, rfl, rfl, rfl, trivial⟩) (fin _ e)
end ZPF
