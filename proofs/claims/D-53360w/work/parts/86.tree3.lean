/-! TREE NODES, part 3: root, find, getTreeNode, moveRootToFront, new nodes -/
set_option maxRecDepth 100000
/-- a store beside what may be null -/
theorem zdel_q {k : Nat} {r : Option Nat} {L : List (Nat × Value)} : zdel (k + 1) ((k, va_rf r) :: L) = (k, va_rf r) :: zdel (k + 1) L := by
  have h1 : Nat.beq k (k + 1) = false := by
    cases h : Nat.beq k (k + 1) with
    | false => rfl
    | true => exact absurd (Nat.eq_of_beq_eq_true h) (by omega)
  have h2 : Nat.beq (k + 1) (k + 1) = true := Nat.beq_refl _
  cases r <;> simp only [zdel, va_rf, h1, h2]
section ZTF
variable {G : zG} {μ : zM} {R o : Nat} {ν ky vl : Nat → Nat} {nx pa le ri pv : Nat → Option Nat} {rd : Nat → Int32} {B T : Nat → Prop} {a b : Nat → Int}
theorem C_root {x : Nat} (hT : zTn μ R o ν ky vl nx pa le ri pv rd B) (hTr : zTree T zKap pa le ri a b) (hTB : ∀ x, T x → B x) (hx : T x) : Meets G 1 MJ23_root [.ref (ν x)] μ (fun v μ' => ∃ r, T r ∧ pa r = none ∧ v = some (.ref (ν r)) ∧ μ' = μ) 0 0 := by
  refine meets_of (by decide +kernel) (Nat.le_of_ble_eq_true rfl) ?_
  first | refine aw_aload_n (i := 0) (q := 1) dJ23_root_0 rfl rfl rfl ?_ | refine aw_aloadN_n (i := 0) (q := 1) dJ23_root_0 rfl rfl rfl ?_ | refine aw_aloadQ_n (i := 0) (q := 1) dJ23_root_0 rfl rfl rfl ?_
  first | refine aw_astore_n (i := 1) (q := 2) dJ23_root_1 rfl (by decide) rfl ?_ | refine aw_astoreN_n (i := 1) (q := 2) dJ23_root_1 rfl (by decide) rfl ?_ | refine aw_astoreQ_n (i := 1) (q := 2) dJ23_root_1 rfl (by decide) rfl ?_
  have loop : ∀ n x, T x → (200000 - (b x - a x)).toNat ≤ n → AW G 1 MJ23_root (fun v μ' => ∃ r, T r ∧ pa r = none ∧ v = some (.ref (ν r)) ∧ μ' = μ) 0 0 2 [(1, .ref (ν x))] [] μ := by
    intro n
    induction n with
    | zero =>
      intro x hx hm
      have hx1 := (hT x (hTB x hx)).2
      obtain ⟨q, hq⟩ : ∃ q, pa x = q := ⟨_, rfl⟩
      rw [hq] at hx1
      cases q with
      | none =>
        simp only [Option.map_none, zrf_n] at hx1
        first | refine aw_aload_n (i := 1) (q := 3) dJ23_root_2 rfl rfl rfl ?_ | refine aw_aloadN_n (i := 1) (q := 3) dJ23_root_2 rfl rfl rfl ?_ | refine aw_aloadQ_n (i := 1) (q := 3) dJ23_root_2 rfl rfl rfl ?_
        refine aw_getfield (q := 6) dJ23_root_3 gf_J23_9_15 (by assumption) rfl rfl ?_
        refine aw_dup (q := 7) dJ23_root_6 (by first | rfl | exact zcat_rf _) rfl ?_
        first | refine aw_astore_n (i := 2) (q := 8) dJ23_root_7 rfl (by decide) rfl ?_ | refine aw_astoreN_n (i := 2) (q := 8) dJ23_root_7 rfl (by decide) rfl ?_ | refine aw_astoreQ_n (i := 2) (q := 8) dJ23_root_7 rfl (by decide) rfl ?_
        try simp only [zput, zdel_q]
        refine aw_ifnonnull_n (q := 11) dJ23_root_8 rfl ?_
        first | refine aw_aload_n (i := 1) (q := 12) dJ23_root_11 rfl rfl rfl ?_ | refine aw_aloadN_n (i := 1) (q := 12) dJ23_root_11 rfl rfl rfl ?_ | refine aw_aloadQ_n (i := 1) (q := 12) dJ23_root_11 rfl rfl rfl ?_
        exact aw_areturnR dJ23_root_12 rfl (by first | exact Or.inl ⟨_, rfl⟩ | exact Or.inr ⟨_, rfl⟩) (⟨x, hx, hq, rfl, rfl⟩)
      | some w =>
        obtain ⟨-, -, -, m1, m2⟩ := hTr.par hx hq
        omega
    | succ n ih =>
      intro x hx hm
      have hx1 := (hT x (hTB x hx)).2
      obtain ⟨q, hq⟩ : ∃ q, pa x = q := ⟨_, rfl⟩
      rw [hq] at hx1
      cases q with
      | none =>
        simp only [Option.map_none, zrf_n] at hx1
        first | refine aw_aload_n (i := 1) (q := 3) dJ23_root_2 rfl rfl rfl ?_ | refine aw_aloadN_n (i := 1) (q := 3) dJ23_root_2 rfl rfl rfl ?_ | refine aw_aloadQ_n (i := 1) (q := 3) dJ23_root_2 rfl rfl rfl ?_
        refine aw_getfield (q := 6) dJ23_root_3 gf_J23_9_15 (by assumption) rfl rfl ?_
        refine aw_dup (q := 7) dJ23_root_6 (by first | rfl | exact zcat_rf _) rfl ?_
        first | refine aw_astore_n (i := 2) (q := 8) dJ23_root_7 rfl (by decide) rfl ?_ | refine aw_astoreN_n (i := 2) (q := 8) dJ23_root_7 rfl (by decide) rfl ?_ | refine aw_astoreQ_n (i := 2) (q := 8) dJ23_root_7 rfl (by decide) rfl ?_
        try simp only [zput, zdel_q]
        refine aw_ifnonnull_n (q := 11) dJ23_root_8 rfl ?_
        first | refine aw_aload_n (i := 1) (q := 12) dJ23_root_11 rfl rfl rfl ?_ | refine aw_aloadN_n (i := 1) (q := 12) dJ23_root_11 rfl rfl rfl ?_ | refine aw_aloadQ_n (i := 1) (q := 12) dJ23_root_11 rfl rfl rfl ?_
        exact aw_areturnR dJ23_root_12 rfl (by first | exact Or.inl ⟨_, rfl⟩ | exact Or.inr ⟨_, rfl⟩) (⟨x, hx, hq, rfl, rfl⟩)
      | some w =>
        obtain ⟨hw, -, -, m1, m2⟩ := hTr.par hx hq
        simp only [Option.map_some, zrf_s] at hx1
        first | refine aw_aload_n (i := 1) (q := 3) dJ23_root_2 rfl rfl rfl ?_ | refine aw_aloadN_n (i := 1) (q := 3) dJ23_root_2 rfl rfl rfl ?_ | refine aw_aloadQ_n (i := 1) (q := 3) dJ23_root_2 rfl rfl rfl ?_
        refine aw_getfield (q := 6) dJ23_root_3 gf_J23_9_15 (by assumption) rfl rfl ?_
        refine aw_dup (q := 7) dJ23_root_6 (by first | rfl | exact zcat_rf _) rfl ?_
        first | refine aw_astore_n (i := 2) (q := 8) dJ23_root_7 rfl (by decide) rfl ?_ | refine aw_astoreN_n (i := 2) (q := 8) dJ23_root_7 rfl (by decide) rfl ?_ | refine aw_astoreQ_n (i := 2) (q := 8) dJ23_root_7 rfl (by decide) rfl ?_
        try simp only [zput, zdel_q]
        refine aw_ifnonnull_r (tgt := 13) dJ23_root_8 (by decide) ?_
        first | refine aw_aload_n (i := 2) (q := 14) dJ23_root_13 rfl rfl rfl ?_ | refine aw_aloadN_n (i := 2) (q := 14) dJ23_root_13 rfl rfl rfl ?_ | refine aw_aloadQ_n (i := 2) (q := 14) dJ23_root_13 rfl rfl rfl ?_
        first | refine aw_astore_n (i := 1) (q := 15) dJ23_root_14 rfl (by decide) rfl ?_ | refine aw_astoreN_n (i := 1) (q := 15) dJ23_root_14 rfl (by decide) rfl ?_ | refine aw_astoreQ_n (i := 1) (q := 15) dJ23_root_14 rfl (by decide) rfl ?_
        refine aw_goto (tgt := 2) dJ23_root_15 (by decide) ?_
        exact AW.bud (aw_locals (by exact ⟨rfl, trivial⟩) (ih w hw (by omega))) (by omega) (by omega)
  exact AW.bud (aw_locals (by exact ⟨rfl, trivial⟩) (loop _ x hx (Nat.le_refl _))) (by omega) (by omega)
set_option maxHeartbeats 8000000 in
/-- find: from a node whose interval holds h -/
theorem C_find {p h k : Nat} {res : Option Nat} {tk : zT} (hT : zTn μ R o ν ky vl nx pa le ri pv rd B) (hTr : zTree T zKap pa le ri a b) (hTB : ∀ x, T x → B x) (hp : T p) (h1 : a p < (h : Int)) (h2 : (h : Int) < b p) (hh : h < 8192) (hres : (T h ∧ res = some (ν h)) ∨ (¬ T h ∧ res = none)) (hk : μ k = some (tk, oTime (nI (h / 6)) (nI (h % 6)))) (hky : T h → μ (ky h) = some (tk, oTime (nI (h / 6)) (nI (h % 6)))) : Meets G 2 MJ23_find [.ref (ν p), .int (nI h), .ref k, .null] μ (zPure (va_rf res) μ) 0 0 := by
  refine meets_of (by decide +kernel) (Nat.le_of_ble_eq_true rfl) ?_
  first | refine aw_aload_n (i := 0) (q := 1) dJ23_find_0 rfl rfl rfl ?_ | refine aw_aloadN_n (i := 0) (q := 1) dJ23_find_0 rfl rfl rfl ?_ | refine aw_aloadQ_n (i := 0) (q := 1) dJ23_find_0 rfl rfl rfl ?_
  first | refine aw_astore (q := 3) dJ23_find_1 (by decide) rfl ?_ | refine aw_astoreN (q := 3) dJ23_find_1 (by decide) rfl ?_ | refine aw_astoreQ (q := 3) dJ23_find_1 (by decide) rfl ?_
  try simp only [zput, zdel_q]
  have stop : res = none → AW G 2 MJ23_find (zPure (va_rf res) μ) 0 0 170 [] [] μ := by
    intro e
    rw [e]
    refine aw_null (q := 171) dJ23_find_170 rfl ?_
    exact aw_areturnN dJ23_find_171 rfl (by first | exact Or.inl ⟨_, rfl⟩ | exact Or.inr ⟨_, rfl⟩) (⟨rfl, rfl⟩)
  have loop : ∀ n p, T p → a p < (h : Int) → (h : Int) < b p → (b p - a p).toNat ≤ n → AW G 2 MJ23_find (zPure (va_rf res) μ) 0 0 3 [(1, .int (nI h)), (2, .ref k), (3, .null), (4, .ref (ν p))] [] μ := by
    intro n
    induction n with
    | zero => intro p hp h1 h2 hn; omega
    | succ n ih =>
      intro p hp h1 h2 hn
      obtain ⟨p1, p2, p3, p4, p5, -, -⟩ := hTr.at hp
      obtain ⟨hp8, hp1⟩ := hT p (hTB p hp)
      rcases Nat.lt_trichotomy h p with hlt | heq | hgt
      · obtain ⟨q, hq⟩ : ∃ q, le p = q := ⟨_, rfl⟩
        rw [hq] at hp1
        cases q with
        | none =>
          have hn : ¬ T h := fun q => p3 hq h q ⟨h1, by omega⟩
          simp only [Option.map_none, zrf_n] at hp1
          first | refine aw_aload (q := 5) dJ23_find_3 rfl rfl ?_ | refine aw_aloadN (q := 5) dJ23_find_3 rfl rfl ?_ | refine aw_aloadQ (q := 5) dJ23_find_3 rfl rfl ?_
          refine aw_getfield (q := 8) dJ23_find_5 gf_J23_39_15 (by assumption) rfl rfl ?_
          first | refine aw_astore (q := 10) dJ23_find_8 (by decide) rfl ?_ | refine aw_astoreN (q := 10) dJ23_find_8 (by decide) rfl ?_ | refine aw_astoreQ (q := 10) dJ23_find_8 (by decide) rfl ?_
          try simp only [zput, zdel_q]
          first | refine aw_aload (q := 12) dJ23_find_10 rfl rfl ?_ | refine aw_aloadN (q := 12) dJ23_find_10 rfl rfl ?_ | refine aw_aloadQ (q := 12) dJ23_find_10 rfl rfl ?_
          refine aw_getfield (q := 15) dJ23_find_12 gf_J23_42_15 (by assumption) rfl rfl ?_
          first | refine aw_astore (q := 17) dJ23_find_15 (by decide) rfl ?_ | refine aw_astoreN (q := 17) dJ23_find_15 (by decide) rfl ?_ | refine aw_astoreQ (q := 17) dJ23_find_15 (by decide) rfl ?_
          try simp only [zput, zdel_q]
          first | refine aw_aload (q := 19) dJ23_find_17 rfl rfl ?_ | refine aw_aloadN (q := 19) dJ23_find_17 rfl rfl ?_ | refine aw_aloadQ (q := 19) dJ23_find_17 rfl rfl ?_
          first | refine aw_getfield (q := 22) dJ23_find_19 gf_J23_15_13 (by assumption) rfl rfl ?_ | refine aw_getfield (q := 22) dJ23_find_19 gf_J23_15_15 (by assumption) rfl rfl ?_ | refine aw_nd (i := 0) (q := 22) dJ23_find_19 gf_J23_15_13 gf_J23_15_15 (by assumption) rfl rfl ?_
          refine aw_dup (q := 23) dJ23_find_22 (by first | rfl | exact zcat_rf _) rfl ?_
          refine aw_istore (q := 25) dJ23_find_23 (by decide) rfl ?_
          try simp only [zput, zdel_q]
          refine aw_iload_n (i := 1) (q := 26) dJ23_find_25 rfl rfl rfl ?_
          refine aw_icmp_le (tgt := 36) (q := 29) dJ23_find_26 (by decide) rfl (fun hZ => absurd hZ (nI_ge hlt (by omega))) (fun _ => ?_)
          first | refine aw_aload (q := 31) dJ23_find_29 rfl rfl ?_ | refine aw_aloadN (q := 31) dJ23_find_29 rfl rfl ?_ | refine aw_aloadQ (q := 31) dJ23_find_29 rfl rfl ?_
          first | refine aw_astore (q := 33) dJ23_find_31 (by decide) rfl ?_ | refine aw_astoreN (q := 33) dJ23_find_31 (by decide) rfl ?_ | refine aw_astoreQ (q := 33) dJ23_find_31 (by decide) rfl ?_
          try simp only [zput, zdel_q]
          refine aw_goto (tgt := 165) dJ23_find_33 (by decide) ?_
          first | refine aw_aload (q := 167) dJ23_find_165 rfl rfl ?_ | refine aw_aloadN (q := 167) dJ23_find_165 rfl rfl ?_ | refine aw_aloadQ (q := 167) dJ23_find_165 rfl rfl ?_
          refine aw_ifnonnull_n (q := 170) dJ23_find_167 rfl ?_
          exact AW.bud (aw_locals (by exact trivial) (stop (hres.elim (fun q => absurd q.1 hn) (fun q => q.2)))) (by omega) (by omega)
        | some y =>
          obtain ⟨y1, y2, y3, y4⟩ := p2 y hq
          simp only [Option.map_some, zrf_s] at hp1
          first | refine aw_aload (q := 5) dJ23_find_3 rfl rfl ?_ | refine aw_aloadN (q := 5) dJ23_find_3 rfl rfl ?_ | refine aw_aloadQ (q := 5) dJ23_find_3 rfl rfl ?_
          refine aw_getfield (q := 8) dJ23_find_5 gf_J23_39_15 (by assumption) rfl rfl ?_
          first | refine aw_astore (q := 10) dJ23_find_8 (by decide) rfl ?_ | refine aw_astoreN (q := 10) dJ23_find_8 (by decide) rfl ?_ | refine aw_astoreQ (q := 10) dJ23_find_8 (by decide) rfl ?_
          try simp only [zput, zdel_q]
          first | refine aw_aload (q := 12) dJ23_find_10 rfl rfl ?_ | refine aw_aloadN (q := 12) dJ23_find_10 rfl rfl ?_ | refine aw_aloadQ (q := 12) dJ23_find_10 rfl rfl ?_
          refine aw_getfield (q := 15) dJ23_find_12 gf_J23_42_15 (by assumption) rfl rfl ?_
          first | refine aw_astore (q := 17) dJ23_find_15 (by decide) rfl ?_ | refine aw_astoreN (q := 17) dJ23_find_15 (by decide) rfl ?_ | refine aw_astoreQ (q := 17) dJ23_find_15 (by decide) rfl ?_
          try simp only [zput, zdel_q]
          first | refine aw_aload (q := 19) dJ23_find_17 rfl rfl ?_ | refine aw_aloadN (q := 19) dJ23_find_17 rfl rfl ?_ | refine aw_aloadQ (q := 19) dJ23_find_17 rfl rfl ?_
          first | refine aw_getfield (q := 22) dJ23_find_19 gf_J23_15_13 (by assumption) rfl rfl ?_ | refine aw_getfield (q := 22) dJ23_find_19 gf_J23_15_15 (by assumption) rfl rfl ?_ | refine aw_nd (i := 0) (q := 22) dJ23_find_19 gf_J23_15_13 gf_J23_15_15 (by assumption) rfl rfl ?_
          refine aw_dup (q := 23) dJ23_find_22 (by first | rfl | exact zcat_rf _) rfl ?_
          refine aw_istore (q := 25) dJ23_find_23 (by decide) rfl ?_
          try simp only [zput, zdel_q]
          refine aw_iload_n (i := 1) (q := 26) dJ23_find_25 rfl rfl rfl ?_
          refine aw_icmp_le (tgt := 36) (q := 29) dJ23_find_26 (by decide) rfl (fun hZ => absurd hZ (nI_ge hlt (by omega))) (fun _ => ?_)
          first | refine aw_aload (q := 31) dJ23_find_29 rfl rfl ?_ | refine aw_aloadN (q := 31) dJ23_find_29 rfl rfl ?_ | refine aw_aloadQ (q := 31) dJ23_find_29 rfl rfl ?_
          first | refine aw_astore (q := 33) dJ23_find_31 (by decide) rfl ?_ | refine aw_astoreN (q := 33) dJ23_find_31 (by decide) rfl ?_ | refine aw_astoreQ (q := 33) dJ23_find_31 (by decide) rfl ?_
          try simp only [zput, zdel_q]
          refine aw_goto (tgt := 165) dJ23_find_33 (by decide) ?_
          first | refine aw_aload (q := 167) dJ23_find_165 rfl rfl ?_ | refine aw_aloadN (q := 167) dJ23_find_165 rfl rfl ?_ | refine aw_aloadQ (q := 167) dJ23_find_165 rfl rfl ?_
          refine aw_ifnonnull_r (tgt := 3) dJ23_find_167 (by decide) ?_
          exact AW.bud (aw_locals (by exact ⟨rfl, rfl, rfl, rfl, trivial⟩) (ih y y1 (by omega) (by omega) (by omega))) (by omega) (by omega)
      · subst heq
        have e : res = some (ν h) := hres.elim (fun q => q.2) (fun q => absurd hp q.1)
        have hkh := hky hp
        rw [e]
        first | refine aw_aload (q := 5) dJ23_find_3 rfl rfl ?_ | refine aw_aloadN (q := 5) dJ23_find_3 rfl rfl ?_ | refine aw_aloadQ (q := 5) dJ23_find_3 rfl rfl ?_
        refine aw_getfield (q := 8) dJ23_find_5 gf_J23_39_15 (by assumption) rfl rfl ?_
        first | refine aw_astore (q := 10) dJ23_find_8 (by decide) rfl ?_ | refine aw_astoreN (q := 10) dJ23_find_8 (by decide) rfl ?_ | refine aw_astoreQ (q := 10) dJ23_find_8 (by decide) rfl ?_
        try simp only [zput, zdel_q]
        first | refine aw_aload (q := 12) dJ23_find_10 rfl rfl ?_ | refine aw_aloadN (q := 12) dJ23_find_10 rfl rfl ?_ | refine aw_aloadQ (q := 12) dJ23_find_10 rfl rfl ?_
        refine aw_getfield (q := 15) dJ23_find_12 gf_J23_42_15 (by assumption) rfl rfl ?_
        first | refine aw_astore (q := 17) dJ23_find_15 (by decide) rfl ?_ | refine aw_astoreN (q := 17) dJ23_find_15 (by decide) rfl ?_ | refine aw_astoreQ (q := 17) dJ23_find_15 (by decide) rfl ?_
        try simp only [zput, zdel_q]
        first | refine aw_aload (q := 19) dJ23_find_17 rfl rfl ?_ | refine aw_aloadN (q := 19) dJ23_find_17 rfl rfl ?_ | refine aw_aloadQ (q := 19) dJ23_find_17 rfl rfl ?_
        first | refine aw_getfield (q := 22) dJ23_find_19 gf_J23_15_13 (by assumption) rfl rfl ?_ | refine aw_getfield (q := 22) dJ23_find_19 gf_J23_15_15 (by assumption) rfl rfl ?_ | refine aw_nd (i := 0) (q := 22) dJ23_find_19 gf_J23_15_13 gf_J23_15_15 (by assumption) rfl rfl ?_
        refine aw_dup (q := 23) dJ23_find_22 (by first | rfl | exact zcat_rf _) rfl ?_
        refine aw_istore (q := 25) dJ23_find_23 (by decide) rfl ?_
        try simp only [zput, zdel_q]
        refine aw_iload_n (i := 1) (q := 26) dJ23_find_25 rfl rfl rfl ?_
        refine aw_icmp_le (tgt := 36) (q := 29) dJ23_find_26 (by decide) rfl (fun _ => ?_) (fun hZ => absurd (nI_le (Nat.le_refl _) (by omega)) hZ)
        refine aw_iload (q := 38) dJ23_find_36 rfl rfl ?_
        refine aw_iload_n (i := 1) (q := 39) dJ23_find_38 rfl rfl rfl ?_
        refine aw_icmp_ge (tgt := 49) (q := 42) dJ23_find_39 (by decide) rfl (fun _ => ?_) (fun hZ => absurd (nI_le (Nat.le_refl _) (by omega)) hZ)
        first | refine aw_aload (q := 51) dJ23_find_49 rfl rfl ?_ | refine aw_aloadN (q := 51) dJ23_find_49 rfl rfl ?_ | refine aw_aloadQ (q := 51) dJ23_find_49 rfl rfl ?_
        first | refine aw_getfield (q := 54) dJ23_find_51 gf_J23_45_13 (by assumption) rfl rfl ?_ | refine aw_getfield (q := 54) dJ23_find_51 gf_J23_45_15 (by assumption) rfl rfl ?_ | refine aw_nd (i := 1) (q := 54) dJ23_find_51 gf_J23_45_13 gf_J23_45_15 (by assumption) rfl rfl ?_
        refine aw_dup (q := 55) dJ23_find_54 (by first | rfl | exact zcat_rf _) rfl ?_
        first | refine aw_astore (q := 57) dJ23_find_55 (by decide) rfl ?_ | refine aw_astoreN (q := 57) dJ23_find_55 (by decide) rfl ?_ | refine aw_astoreQ (q := 57) dJ23_find_55 (by decide) rfl ?_
        first | refine aw_aload_n (i := 2) (q := 58) dJ23_find_57 rfl rfl rfl ?_ | refine aw_aloadN_n (i := 2) (q := 58) dJ23_find_57 rfl rfl rfl ?_ | refine aw_aloadQ_n (i := 2) (q := 58) dJ23_find_57 rfl rfl rfl ?_
        first | refine aw_acmpR_eq (tgt := 74) (q := 61) dJ23_find_58 (by decide) rfl (fun hc => ?_) (fun hc => ?_)
        · first | refine aw_aload (q := 76) dJ23_find_74 rfl rfl ?_ | refine aw_aloadN (q := 76) dJ23_find_74 rfl rfl ?_ | refine aw_aloadQ (q := 76) dJ23_find_74 rfl rfl ?_
          exact aw_areturnR dJ23_find_76 rfl (by first | exact Or.inl ⟨_, rfl⟩ | exact Or.inr ⟨_, rfl⟩) (⟨rfl, rfl⟩)
        · first | refine aw_aload_n (i := 2) (q := 62) dJ23_find_61 rfl rfl rfl ?_ | refine aw_aloadN_n (i := 2) (q := 62) dJ23_find_61 rfl rfl rfl ?_ | refine aw_aloadQ_n (i := 2) (q := 62) dJ23_find_61 rfl rfl rfl ?_
          refine aw_ifnull_r (q := 65) dJ23_find_62 rfl ?_
          first | refine aw_aload_n (i := 2) (q := 66) dJ23_find_65 rfl rfl rfl ?_ | refine aw_aloadN_n (i := 2) (q := 66) dJ23_find_65 rfl rfl rfl ?_ | refine aw_aloadQ_n (i := 2) (q := 66) dJ23_find_65 rfl rfl rfl ?_
          first | refine aw_aload (q := 68) dJ23_find_66 rfl rfl ?_ | refine aw_aloadN (q := 68) dJ23_find_66 rfl rfl ?_ | refine aw_aloadQ (q := 68) dJ23_find_66 rfl rfl ?_
          refine aw_callU (q := 71) dJ23_find_68 (C_Time_equals hk hkh) cu_J23_49_8 (by assumption) rfl rfl (by decide) (by decide) (by first | exact Nat.le_of_ble_eq_true rfl | simp [zcat_rf, Value.category]) rfl (zpk ?_)
          refine aw_if_eq (tgt := 77) (q := 74) dJ23_find_71 (by decide) rfl (fun hZ => absurd hZ (by (rw [zB_t ⟨rfl, rfl⟩]; decide))) (fun _ => ?_)
          first | refine aw_aload (q := 76) dJ23_find_74 rfl rfl ?_ | refine aw_aloadN (q := 76) dJ23_find_74 rfl rfl ?_ | refine aw_aloadQ (q := 76) dJ23_find_74 rfl rfl ?_
          exact aw_areturnR dJ23_find_76 rfl (by first | exact Or.inl ⟨_, rfl⟩ | exact Or.inr ⟨_, rfl⟩) (⟨rfl, rfl⟩)
      · obtain ⟨q, hq⟩ : ∃ q, ri p = q := ⟨_, rfl⟩
        rw [hq] at hp1
        cases q with
        | none =>
          have hn : ¬ T h := fun q => p5 hq h q ⟨by omega, h2⟩
          simp only [Option.map_none, zrf_n] at hp1
          first | refine aw_aload (q := 5) dJ23_find_3 rfl rfl ?_ | refine aw_aloadN (q := 5) dJ23_find_3 rfl rfl ?_ | refine aw_aloadQ (q := 5) dJ23_find_3 rfl rfl ?_
          refine aw_getfield (q := 8) dJ23_find_5 gf_J23_39_15 (by assumption) rfl rfl ?_
          first | refine aw_astore (q := 10) dJ23_find_8 (by decide) rfl ?_ | refine aw_astoreN (q := 10) dJ23_find_8 (by decide) rfl ?_ | refine aw_astoreQ (q := 10) dJ23_find_8 (by decide) rfl ?_
          try simp only [zput, zdel_q]
          first | refine aw_aload (q := 12) dJ23_find_10 rfl rfl ?_ | refine aw_aloadN (q := 12) dJ23_find_10 rfl rfl ?_ | refine aw_aloadQ (q := 12) dJ23_find_10 rfl rfl ?_
          refine aw_getfield (q := 15) dJ23_find_12 gf_J23_42_15 (by assumption) rfl rfl ?_
          first | refine aw_astore (q := 17) dJ23_find_15 (by decide) rfl ?_ | refine aw_astoreN (q := 17) dJ23_find_15 (by decide) rfl ?_ | refine aw_astoreQ (q := 17) dJ23_find_15 (by decide) rfl ?_
          try simp only [zput, zdel_q]
          first | refine aw_aload (q := 19) dJ23_find_17 rfl rfl ?_ | refine aw_aloadN (q := 19) dJ23_find_17 rfl rfl ?_ | refine aw_aloadQ (q := 19) dJ23_find_17 rfl rfl ?_
          first | refine aw_getfield (q := 22) dJ23_find_19 gf_J23_15_13 (by assumption) rfl rfl ?_ | refine aw_getfield (q := 22) dJ23_find_19 gf_J23_15_15 (by assumption) rfl rfl ?_ | refine aw_nd (i := 0) (q := 22) dJ23_find_19 gf_J23_15_13 gf_J23_15_15 (by assumption) rfl rfl ?_
          refine aw_dup (q := 23) dJ23_find_22 (by first | rfl | exact zcat_rf _) rfl ?_
          refine aw_istore (q := 25) dJ23_find_23 (by decide) rfl ?_
          try simp only [zput, zdel_q]
          refine aw_iload_n (i := 1) (q := 26) dJ23_find_25 rfl rfl rfl ?_
          refine aw_icmp_le (tgt := 36) (q := 29) dJ23_find_26 (by decide) rfl (fun _ => ?_) (fun hZ => absurd (nI_le (by omega) (by omega)) hZ)
          refine aw_iload (q := 38) dJ23_find_36 rfl rfl ?_
          refine aw_iload_n (i := 1) (q := 39) dJ23_find_38 rfl rfl rfl ?_
          refine aw_icmp_ge (tgt := 49) (q := 42) dJ23_find_39 (by decide) rfl (fun hZ => absurd hZ (nI_ge hgt (by omega))) (fun _ => ?_)
          first | refine aw_aload (q := 44) dJ23_find_42 rfl rfl ?_ | refine aw_aloadN (q := 44) dJ23_find_42 rfl rfl ?_ | refine aw_aloadQ (q := 44) dJ23_find_42 rfl rfl ?_
          first | refine aw_astore (q := 46) dJ23_find_44 (by decide) rfl ?_ | refine aw_astoreN (q := 46) dJ23_find_44 (by decide) rfl ?_ | refine aw_astoreQ (q := 46) dJ23_find_44 (by decide) rfl ?_
          try simp only [zput, zdel_q]
          refine aw_goto (tgt := 165) dJ23_find_46 (by decide) ?_
          first | refine aw_aload (q := 167) dJ23_find_165 rfl rfl ?_ | refine aw_aloadN (q := 167) dJ23_find_165 rfl rfl ?_ | refine aw_aloadQ (q := 167) dJ23_find_165 rfl rfl ?_
          refine aw_ifnonnull_n (q := 170) dJ23_find_167 rfl ?_
          exact AW.bud (aw_locals (by exact trivial) (stop (hres.elim (fun q => absurd q.1 hn) (fun q => q.2)))) (by omega) (by omega)
        | some y =>
          obtain ⟨y1, y2, y3, y4⟩ := p4 y hq
          simp only [Option.map_some, zrf_s] at hp1
          first | refine aw_aload (q := 5) dJ23_find_3 rfl rfl ?_ | refine aw_aloadN (q := 5) dJ23_find_3 rfl rfl ?_ | refine aw_aloadQ (q := 5) dJ23_find_3 rfl rfl ?_
          refine aw_getfield (q := 8) dJ23_find_5 gf_J23_39_15 (by assumption) rfl rfl ?_
          first | refine aw_astore (q := 10) dJ23_find_8 (by decide) rfl ?_ | refine aw_astoreN (q := 10) dJ23_find_8 (by decide) rfl ?_ | refine aw_astoreQ (q := 10) dJ23_find_8 (by decide) rfl ?_
          try simp only [zput, zdel_q]
          first | refine aw_aload (q := 12) dJ23_find_10 rfl rfl ?_ | refine aw_aloadN (q := 12) dJ23_find_10 rfl rfl ?_ | refine aw_aloadQ (q := 12) dJ23_find_10 rfl rfl ?_
          refine aw_getfield (q := 15) dJ23_find_12 gf_J23_42_15 (by assumption) rfl rfl ?_
          first | refine aw_astore (q := 17) dJ23_find_15 (by decide) rfl ?_ | refine aw_astoreN (q := 17) dJ23_find_15 (by decide) rfl ?_ | refine aw_astoreQ (q := 17) dJ23_find_15 (by decide) rfl ?_
          try simp only [zput, zdel_q]
          first | refine aw_aload (q := 19) dJ23_find_17 rfl rfl ?_ | refine aw_aloadN (q := 19) dJ23_find_17 rfl rfl ?_ | refine aw_aloadQ (q := 19) dJ23_find_17 rfl rfl ?_
          first | refine aw_getfield (q := 22) dJ23_find_19 gf_J23_15_13 (by assumption) rfl rfl ?_ | refine aw_getfield (q := 22) dJ23_find_19 gf_J23_15_15 (by assumption) rfl rfl ?_ | refine aw_nd (i := 0) (q := 22) dJ23_find_19 gf_J23_15_13 gf_J23_15_15 (by assumption) rfl rfl ?_
          refine aw_dup (q := 23) dJ23_find_22 (by first | rfl | exact zcat_rf _) rfl ?_
          refine aw_istore (q := 25) dJ23_find_23 (by decide) rfl ?_
          try simp only [zput, zdel_q]
          refine aw_iload_n (i := 1) (q := 26) dJ23_find_25 rfl rfl rfl ?_
          refine aw_icmp_le (tgt := 36) (q := 29) dJ23_find_26 (by decide) rfl (fun _ => ?_) (fun hZ => absurd (nI_le (by omega) (by omega)) hZ)
          refine aw_iload (q := 38) dJ23_find_36 rfl rfl ?_
          refine aw_iload_n (i := 1) (q := 39) dJ23_find_38 rfl rfl rfl ?_
          refine aw_icmp_ge (tgt := 49) (q := 42) dJ23_find_39 (by decide) rfl (fun hZ => absurd hZ (nI_ge hgt (by omega))) (fun _ => ?_)
          first | refine aw_aload (q := 44) dJ23_find_42 rfl rfl ?_ | refine aw_aloadN (q := 44) dJ23_find_42 rfl rfl ?_ | refine aw_aloadQ (q := 44) dJ23_find_42 rfl rfl ?_
          first | refine aw_astore (q := 46) dJ23_find_44 (by decide) rfl ?_ | refine aw_astoreN (q := 46) dJ23_find_44 (by decide) rfl ?_ | refine aw_astoreQ (q := 46) dJ23_find_44 (by decide) rfl ?_
          try simp only [zput, zdel_q]
          refine aw_goto (tgt := 165) dJ23_find_46 (by decide) ?_
          first | refine aw_aload (q := 167) dJ23_find_165 rfl rfl ?_ | refine aw_aloadN (q := 167) dJ23_find_165 rfl rfl ?_ | refine aw_aloadQ (q := 167) dJ23_find_165 rfl rfl ?_
          refine aw_ifnonnull_r (tgt := 3) dJ23_find_167 (by decide) ?_
          exact AW.bud (aw_locals (by exact ⟨rfl, rfl, rfl, rfl, trivial⟩) (ih y y1 (by omega) (by omega) (by omega))) (by omega) (by omega)
  exact AW.bud (aw_locals (by exact ⟨rfl, rfl, rfl, rfl, trivial⟩) (loop _ p hp h1 h2 (Nat.le_refl _))) (by omega) (by omega)
set_option maxHeartbeats 4000000 in
theorem C_getTreeNode {x h k : Nat} {res : Option Nat} {tk : zT} (hT : zTn μ R o ν ky vl nx pa le ri pv rd B) (hTr : zTree T zKap pa le ri a b) (hTB : ∀ x, T x → B x) (hx : T x) (hh : h < 8192) (hres : (T h ∧ res = some (ν h)) ∨ (¬ T h ∧ res = none)) (hk : μ k = some (tk, oTime (nI (h / 6)) (nI (h % 6)))) (hky : T h → μ (ky h) = some (tk, oTime (nI (h / 6)) (nI (h % 6)))) : Meets G 3 MJ23_getTreeNode [.ref (ν x), .int (nI h), .ref k] μ (zPure (va_rf res) μ) 0 0 := by
  have fin : ∀ r, T r → pa r = none → AW G 3 MJ23_getTreeNode (zPure (va_rf res) μ) 0 0 15 [(1, .int (nI h)), (2, .ref k)] [.ref (ν r)] μ := by
    intro r hr hrn
    obtain ⟨r1, -, -, -, -, r6, -⟩ := hTr.at hr
    obtain ⟨e1, e2⟩ := r6 hrn
    have hr1 := (hT r (hTB r hr)).2
    refine aw_iload_n (i := 1) (q := 16) dJ23_getTreeNode_15 rfl rfl rfl ?_
    first | refine aw_aload_n (i := 2) (q := 17) dJ23_getTreeNode_16 rfl rfl rfl ?_ | refine aw_aloadN_n (i := 2) (q := 17) dJ23_getTreeNode_16 rfl rfl rfl ?_ | refine aw_aloadQ_n (i := 2) (q := 17) dJ23_getTreeNode_16 rfl rfl rfl ?_
    refine aw_null (q := 18) dJ23_getTreeNode_17 rfl ?_
    refine aw_callV (q := 21) dJ23_getTreeNode_18 (C_find hT hTr hTB hr (by omega) (by omega) hh hres hk hky) cv_J23_63_15 (by assumption) rfl rfl (by decide) (by decide) (by first | exact Nat.le_of_ble_eq_true rfl | simp [zcat_rf, Value.category]) rfl (zpk ?_)
    exact aw_areturn dJ23_getTreeNode_21 rfl (by first | exact Or.inl ⟨_, rfl⟩ | exact Or.inr ⟨_, rfl⟩) (⟨rfl, rfl⟩)
  have hx1 := (hT x (hTB x hx)).2
  obtain ⟨q, hq⟩ : ∃ q, pa x = q := ⟨_, rfl⟩
  rw [hq] at hx1
  cases q with
  | none =>
    simp only [Option.map_none, zrf_n] at hx1
    refine meets_of (by decide +kernel) (Nat.le_of_ble_eq_true rfl) ?_
    first | refine aw_aload_n (i := 0) (q := 1) dJ23_getTreeNode_0 rfl rfl rfl ?_ | refine aw_aloadN_n (i := 0) (q := 1) dJ23_getTreeNode_0 rfl rfl rfl ?_ | refine aw_aloadQ_n (i := 0) (q := 1) dJ23_getTreeNode_0 rfl rfl rfl ?_
    refine aw_getfield (q := 4) dJ23_getTreeNode_1 gf_J23_9_15 (by assumption) rfl rfl ?_
    refine aw_ifnull_n (tgt := 14) dJ23_getTreeNode_4 (by decide) ?_
    first | refine aw_aload_n (i := 0) (q := 15) dJ23_getTreeNode_14 rfl rfl rfl ?_ | refine aw_aloadN_n (i := 0) (q := 15) dJ23_getTreeNode_14 rfl rfl rfl ?_ | refine aw_aloadQ_n (i := 0) (q := 15) dJ23_getTreeNode_14 rfl rfl rfl ?_
    exact AW.bud (aw_locals (by exact ⟨rfl, rfl, trivial⟩) (fin x hx hq)) (by omega) (by omega)
  | some w =>
    simp only [Option.map_some, zrf_s] at hx1
    refine meets_of (by decide +kernel) (Nat.le_of_ble_eq_true rfl) ?_
    first | refine aw_aload_n (i := 0) (q := 1) dJ23_getTreeNode_0 rfl rfl rfl ?_ | refine aw_aloadN_n (i := 0) (q := 1) dJ23_getTreeNode_0 rfl rfl rfl ?_ | refine aw_aloadQ_n (i := 0) (q := 1) dJ23_getTreeNode_0 rfl rfl rfl ?_
    refine aw_getfield (q := 4) dJ23_getTreeNode_1 gf_J23_9_15 (by assumption) rfl rfl ?_
    refine aw_ifnull_r (q := 7) dJ23_getTreeNode_4 rfl ?_
    first | refine aw_aload_n (i := 0) (q := 8) dJ23_getTreeNode_7 rfl rfl rfl ?_ | refine aw_aloadN_n (i := 0) (q := 8) dJ23_getTreeNode_7 rfl rfl rfl ?_ | refine aw_aloadQ_n (i := 0) (q := 8) dJ23_getTreeNode_7 rfl rfl rfl ?_
    refine aw_callV (q := 11) dJ23_getTreeNode_8 (C_root hT hTr hTB hx) cv_J23_67_15 (by assumption) rfl rfl (by decide) (by decide) (by first | exact Nat.le_of_ble_eq_true rfl | simp [zcat_rf, Value.category]) rfl (fun v8 μ1 hp => ?_)
    obtain ⟨r, hr, hrn, rfl, rfl⟩ := hp
    refine aw_goto (tgt := 15) dJ23_getTreeNode_11 (by decide) ?_
    exact AW.bud (aw_locals (by exact ⟨rfl, rfl, trivial⟩) (fin r hr hrn)) (by omega) (by omega)
end ZTF
