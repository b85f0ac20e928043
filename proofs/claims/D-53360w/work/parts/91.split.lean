/-! HASH MAPS: untreeify, split -/
set_option maxRecDepth 100000
theorem zSnoc : ∀ l : List Nat, l = [] ∨ ∃ m y, l = m ++ [y]
  | [] => Or.inl rfl
  | x :: l => by
    rcases zSnoc l with rfl | ⟨m, y, rfl⟩
    · exact Or.inr ⟨[], x, rfl⟩
    · exact Or.inr ⟨x :: m, y, rfl⟩
theorem zLast {m : List Nat} {y : Nat} : (m ++ [y]).getLast? = some y := by
  rw [List.getLast?_append]; rfl
theorem zHead_snoc {l : List Nat} {z : Nat} : (l ++ [z]).head? = (match l.head? with
    | none => some z
    | some x => some x) := by
  cases l <;> rfl
theorem zPv.snoc {pv : Nat → Option Nat} {l : List Nat} {h : Nat} (hp : zPv pv none l) (hh : h ∉ l) : zPv (va_up pv h l.getLast?) none (l ++ [h]) := by
  refine zPv.app.mpr ⟨hp.congr (fun x hx => va_up_ne _ _ (fun e => hh (e ▸ hx))), ?_, trivial⟩
  rw [va_up_self]
  cases l.getLast? <;> rfl
/-- a chain with a new last element, whose link is nothing -/
theorem zCh.snocN {nx : Nat → Option Nat} {l : List Nat} {h : Nat} (hc : zCh nx l) (hn : l.Nodup) (hh : h ∉ l) : zCh (match l.getLast? with
    | none => va_up nx h none
    | some y => va_up (va_up nx h none) y (some h)) (l ++ [h]) := by
  rcases zSnoc l with rfl | ⟨m, y, rfl⟩
  · exact ⟨va_up_self _ _ _, trivial⟩
  · rw [zLast]
    exact hc.snoc hn hh
theorem zNodup_snoc {l : List Nat} {h : Nat} (hn : l.Nodup) (hh : h ∉ l) : (l ++ [h]).Nodup := by
  refine List.nodup_append.mpr ⟨hn, List.nodup_cons.mpr ⟨List.not_mem_nil, List.nodup_nil⟩, fun a ha b hb e => ?_⟩
  rw [List.mem_singleton.mp hb] at e
  exact hh (e ▸ ha)
section ZUN
variable {G : zG} {μ : zM} {R o : Nat} {ν ky vl : Nat → Nat} {nx pa le ri pv : Nat → Option Nat} {rd : Nat → Int32} {B : Nat → Prop}
theorem zPn.p_nx {μ μ' : zM} (h : zPn μ R o ν ky vl nx B) {x : Nat} (hx : B x) (v : Option Nat) (hμ : μ' = updM μ (ν x) (hnT R o x, oNd x (ky x) (vl x) (v.map ν))) : zPn μ' R o ν ky vl (va_up nx x v) B := by
  intro k hk
  refine ⟨(h k hk).1, ?_⟩
  by_cases e : k = x
  · subst e; rw [hμ, updM_eq, va_up_self]
  · have ne : ν k ≠ ν x := by
      intro q
      have h1 := (h k hk).2
      rw [q, (h x hx).2] at h1
      exact e (hnT_in (congrArg Prod.fst (Option.some.inj h1))).symm
    rw [hμ, updM_ne ne, va_up_ne _ _ e]; exact (h k hk).2
/-- a new plain node beside -/
theorem zPn.new {μ μ' : zM} (h : zPn μ R o ν ky vl nx B) (hl : ∀ x, B x → ∀ y, nx x = some y → B y) {c x : Nat} (hx : ¬ B x) (hx8 : x < 8192) (hc : μ c = none) (hμ : μ' = updM μ c (hnT R o x, oNd x (ky x) (vl x) none)) :
    zPn μ' R o (upN ν x c) ky vl (va_up nx x none) (fun y => B y ∨ y = x) := by
  intro y hy
  by_cases e : y = x
  · subst e
    refine ⟨hx8, ?_⟩
    rw [upN_eq, va_up_self, hμ, updM_eq]; rfl
  · have hB : B y := hy.resolve_right e
    obtain ⟨h1, h2⟩ := h y hB
    refine ⟨h1, ?_⟩
    rw [upN_ne e, va_up_ne _ _ e, zOmap (r := nx y) (ν := ν) (ν' := upN ν x c) (fun z hz => upN_ne (fun q => hx (q ▸ hl y hB z hz))), hμ, updM_ne (zneN h2 hc)]
    exact h2
theorem zCh_in {nx : Nat → Option Nat} : ∀ {l : List Nat}, zCh nx l → ∀ x, x ∈ l → ∀ y, nx x = some y → y ∈ l
  | [], _, x, hx, _, _ => absurd hx List.not_mem_nil
  | z :: l, h, x, hx, y, hy => by
    rcases List.mem_cons.mp hx with rfl | hx
    · rw [h.1] at hy
      exact List.mem_cons_of_mem _ (List.mem_of_mem_head? hy)
    · exact List.mem_cons_of_mem _ (zCh_in h.2 x hx y hy)
/-- the list of plain nodes that untreeify leaves -/
def zUnt (μ : zM) (R o : Nat) (ky vl : Nat → Nat) (l : List Nat) : Option Value → zM → Prop := fun v μ' => ∃ (ν' : Nat → Nat) (nx' : Nat → Option Nat), v = some (va_rf (l.head?.map ν')) ∧ zPn μ' R o ν' ky vl nx' (· ∈ l) ∧ zCh nx' l ∧ zKp (fun _ _ => False) μ μ'
set_option maxHeartbeats 4000000 in
theorem C_untreeify {m x0 : Nat} {l : List Nat} {t : zT} {fs : List Value} (hm : μ m = some (t, .inr (19, fs))) (hT : zTn μ R o ν ky vl nx pa le ri pv rd (· ∈ l)) (hc : zCh nx l) (hnd : l.Nodup) (hx0 : l.head? = some x0) : Meets G 4 MJ23_untreeify [.ref (ν x0), .ref m] μ (zUnt μ R o ky vl l) l.length (4 * l.length) := by
  have hf : l.head?.map ν = some (ν x0) := by rw [hx0]; rfl
  refine meets_of (by decide +kernel) (Nat.le_of_ble_eq_true rfl) ?_
  refine aw_null (q := 1) dJ23_untreeify_0 rfl ?_
  first | refine aw_astore_n (i := 2) (q := 2) dJ23_untreeify_1 rfl (by decide) rfl ?_ | refine aw_astoreN_n (i := 2) (q := 2) dJ23_untreeify_1 rfl (by decide) rfl ?_ | refine aw_astoreQ_n (i := 2) (q := 2) dJ23_untreeify_1 rfl (by decide) rfl ?_
  refine aw_null (q := 3) dJ23_untreeify_2 rfl ?_
  first | refine aw_astore_n (i := 3) (q := 4) dJ23_untreeify_3 rfl (by decide) rfl ?_ | refine aw_astoreN_n (i := 3) (q := 4) dJ23_untreeify_3 rfl (by decide) rfl ?_ | refine aw_astoreQ_n (i := 3) (q := 4) dJ23_untreeify_3 rfl (by decide) rfl ?_
  try simp (config := {decide := true}) only [zput, zdel_q, zdel_f, zdel_t, zdel_nil, zdel_r, zdel_i, zdel_n]
  first | refine aw_aload_n (i := 0) (q := 5) dJ23_untreeify_4 rfl rfl rfl ?_ | refine aw_aloadN_n (i := 0) (q := 5) dJ23_untreeify_4 rfl rfl rfl ?_ | refine aw_aloadQ_n (i := 0) (q := 5) dJ23_untreeify_4 rfl rfl rfl ?_
  first | refine aw_astore (q := 7) dJ23_untreeify_5 (by decide) rfl ?_ | refine aw_astoreN (q := 7) dJ23_untreeify_5 (by decide) rfl ?_ | refine aw_astoreQ (q := 7) dJ23_untreeify_5 (by decide) rfl ?_
  try simp (config := {decide := true}) only [zput, zdel_q, zdel_f, zdel_t, zdel_nil, zdel_r, zdel_i, zdel_n]
  have loop : ∀ (rest done : List Nat), l = done ++ rest → zCh nx rest → ∀ (μ1 : zM) (ν' : Nat → Nat) (nx' : Nat → Option Nat), zPn μ1 R o ν' ky vl nx' (· ∈ done) → zCh nx' done → (∀ y, y ∈ done → μ (ν' y) = none) → zKp (fun _ _ => False) μ μ1 → AW G 4 MJ23_untreeify (zUnt μ R o ky vl l) rest.length (4 * rest.length) 7 [(1, .ref m), (2, va_rf (done.head?.map ν')), (3, va_rf (done.getLast?.map ν')), (4, va_rf (rest.head?.map ν))] [] μ1 := by
    intro rest
    induction rest with
    | nil =>
      intro done hl hcr μ1 ν' nx' hP hcd hnw hk
      simp only [List.head?_nil, Option.map_none, zrf_n]
      rw [List.append_nil] at hl
      subst hl
      first | refine aw_aload (q := 9) dJ23_untreeify_7 rfl rfl ?_ | refine aw_aloadN (q := 9) dJ23_untreeify_7 rfl rfl ?_ | refine aw_aloadQ (q := 9) dJ23_untreeify_7 rfl rfl ?_
      refine aw_ifnull_n (tgt := 50) dJ23_untreeify_9 (by decide) ?_
      first | refine aw_aload_n (i := 2) (q := 51) dJ23_untreeify_50 rfl rfl rfl ?_ | refine aw_aloadN_n (i := 2) (q := 51) dJ23_untreeify_50 rfl rfl rfl ?_ | refine aw_aloadQ_n (i := 2) (q := 51) dJ23_untreeify_50 rfl rfl rfl ?_
      exact aw_areturn dJ23_untreeify_51 rfl (by first | exact Or.inl ⟨_, rfl⟩ | exact Or.inr ⟨_, rfl⟩) (⟨ν', nx', rfl, hP, hcd, hk⟩)
    | cons x rest ih =>
      intro done hl hcr μ1 ν' nx' hP hcd hnw hk
      simp only [List.head?_cons, Option.map_some, zrf_s]
      have hBx : x ∈ l := by rw [hl]; exact List.mem_append_right _ List.mem_cons_self
      obtain ⟨hx8, hx1⟩ := hT x hBx
      have hx1 := hk _ _ _ hx1 (fun q => q)
      have hm1 := hk _ _ _ hm (fun q => q)
      have hnd' := hl ▸ hnd
      obtain ⟨nd1, nd2, nd3⟩ := List.nodup_append.mp hnd'
      have hxd : x ∉ done := fun q => nd3 x q x List.mem_cons_self rfl
      have hl2 : l = (done ++ [x]) ++ rest := by rw [hl, List.append_assoc]; rfl
      -- behind the link
      have back : ∀ (μ3 : zM) (ν3 : Nat → Nat) (nx3 : Nat → Option Nat) (c : Nat), c = ν3 x → zPn μ3 R o ν3 ky vl nx3 (· ∈ done ++ [x]) → zCh nx3 (done ++ [x]) → (∀ y, y ∈ done ++ [x] → μ (ν3 y) = none) → zKp (fun _ _ => False) μ μ3 → AW G 4 MJ23_untreeify (zUnt μ R o ky vl l) rest.length (4 * rest.length) 37 [(1, .ref m), (2, va_rf ((done ++ [x]).head?.map ν3)), (4, .ref (ν x)), (5, .ref c)] [] μ3 := by
        intro μ3 ν3 nx3 c e3 hP3 hc3 hnw3 hk3
        subst e3
        have hx3 := hk3 _ _ _ (hT x hBx).2 (fun q => q)
        rw [hcr.1] at hx3
        first | refine aw_aload (q := 39) dJ23_untreeify_37 rfl rfl ?_ | refine aw_aloadN (q := 39) dJ23_untreeify_37 rfl rfl ?_ | refine aw_aloadQ (q := 39) dJ23_untreeify_37 rfl rfl ?_
        first | refine aw_astore_n (i := 3) (q := 40) dJ23_untreeify_39 rfl (by decide) rfl ?_ | refine aw_astoreN_n (i := 3) (q := 40) dJ23_untreeify_39 rfl (by decide) rfl ?_ | refine aw_astoreQ_n (i := 3) (q := 40) dJ23_untreeify_39 rfl (by decide) rfl ?_
        try simp (config := {decide := true}) only [zput, zdel_q, zdel_f, zdel_t, zdel_nil, zdel_r, zdel_i, zdel_n]
        first | refine aw_aload (q := 42) dJ23_untreeify_40 rfl rfl ?_ | refine aw_aloadN (q := 42) dJ23_untreeify_40 rfl rfl ?_ | refine aw_aloadQ (q := 42) dJ23_untreeify_40 rfl rfl ?_
        first | refine aw_getfield (q := 45) dJ23_untreeify_42 gf_J23_112_13 (by assumption) rfl rfl ?_ | refine aw_getfield (q := 45) dJ23_untreeify_42 gf_J23_112_15 (by assumption) rfl rfl ?_ | refine aw_nd (i := 3) (q := 45) dJ23_untreeify_42 gf_J23_112_13 gf_J23_112_15 (by assumption) rfl rfl ?_
        first | refine aw_astore (q := 47) dJ23_untreeify_45 (by decide) rfl ?_ | refine aw_astoreN (q := 47) dJ23_untreeify_45 (by decide) rfl ?_ | refine aw_astoreQ (q := 47) dJ23_untreeify_45 (by decide) rfl ?_
        try simp (config := {decide := true}) only [zput, zdel_q, zdel_f, zdel_t, zdel_nil, zdel_r, zdel_i, zdel_n]
        refine aw_goto (tgt := 7) dJ23_untreeify_47 (by decide) ?_
        exact AW.bud (aw_locals (by exact ⟨rfl, rfl, by (rw [zLast]; rfl), rfl, trivial⟩) (ih (done ++ [x]) hl2 hcr.2 μ3 ν3 nx3 hP3 hc3 hnw3 hk3)) (by omega) (by omega)
      refine AW.bud (bc' := rest.length + 1) (bs' := 4 * rest.length + 4) ?_ (by simp only [List.length_cons]; omega) (by simp only [List.length_cons]; omega)
      first | refine aw_aload (q := 9) dJ23_untreeify_7 rfl rfl ?_ | refine aw_aloadN (q := 9) dJ23_untreeify_7 rfl rfl ?_ | refine aw_aloadQ (q := 9) dJ23_untreeify_7 rfl rfl ?_
      refine aw_ifnull_r (q := 12) dJ23_untreeify_9 rfl ?_
      first | refine aw_aload_n (i := 1) (q := 13) dJ23_untreeify_12 rfl rfl rfl ?_ | refine aw_aloadN_n (i := 1) (q := 13) dJ23_untreeify_12 rfl rfl rfl ?_ | refine aw_aloadQ_n (i := 1) (q := 13) dJ23_untreeify_12 rfl rfl rfl ?_
      first | refine aw_aload (q := 15) dJ23_untreeify_13 rfl rfl ?_ | refine aw_aloadN (q := 15) dJ23_untreeify_13 rfl rfl ?_ | refine aw_aloadQ (q := 15) dJ23_untreeify_13 rfl rfl ?_
      refine aw_null (q := 16) dJ23_untreeify_15 rfl ?_
      refine aw_callV (q := 19) dJ23_untreeify_16 (C_replNode (r := none) (u := hnT R o x) hx1 hnT_nz) cv_J23_108_19 (by assumption) rfl rfl (by decide) (by decide) (by first | exact Nat.le_of_ble_eq_true rfl | simp [zcat_rf, Value.category]) rfl (fun v16 μ2 hp => ?_)
      obtain ⟨c, rfl, hcn, hg⟩ := hp
      have hP2 := hP.new (c := c) (x := x) (fun y hy z hz => zCh_in hcd y hy z hz) hxd hx8 hcn hg
      have hk2 : zKp (fun _ _ => False) μ μ2 := hk.tr (hg ▸ zKp.new hcn)
      have hPm : ∀ y, y ∈ done ++ [x] → y ∈ done ∨ y = x := fun y hy => (List.mem_append.mp hy).elim Or.inl (fun q => Or.inr (List.mem_singleton.mp q))
      have hP3 : zPn μ2 R o (upN ν' x c) ky vl (va_up nx' x none) (· ∈ done ++ [x]) := fun y hy => hP2 y (hPm y hy)
      have hcs := hcd.snocN nd1 hxd
      have hcn0 : μ c = none := by
        cases hq : μ c with
        | none => rfl
        | some e =>
          have q2 := hk c e.1 e.2 hq (fun q => q)
          rw [hcn] at q2
          cases q2
      have hnw2 : ∀ y, y ∈ done ++ [x] → μ (upN ν' x c y) = none := by
        intro y hy
        rcases List.mem_append.mp hy with q | q
        · have ne : y ≠ x := fun e => hxd (e ▸ q)
          rw [upN_ne ne]; exact hnw y q
        · rw [List.mem_singleton.mp q, upN_eq]; exact hcn0
      have ehd : done ≠ [] → (done ++ [x]).head?.map (upN ν' x c) = done.head?.map ν' := by
        intro hne
        cases done with
        | nil => exact absurd rfl hne
        | cons y l => exact congrArg some (upN_ne (fun e => hxd (e ▸ List.mem_cons_self)))
      rcases zSnoc done with rfl | ⟨dm, y, rfl⟩
      · simp only [List.getLast?_nil, List.head?_nil, Option.map_none, zrf_n]
        first | refine aw_astore (q := 21) dJ23_untreeify_19 (by decide) rfl ?_ | refine aw_astoreN (q := 21) dJ23_untreeify_19 (by decide) rfl ?_ | refine aw_astoreQ (q := 21) dJ23_untreeify_19 (by decide) rfl ?_
        try simp (config := {decide := true}) only [zput, zdel_q, zdel_f, zdel_t, zdel_nil, zdel_r, zdel_i, zdel_n]
        first | refine aw_aload_n (i := 3) (q := 22) dJ23_untreeify_21 rfl rfl rfl ?_ | refine aw_aloadN_n (i := 3) (q := 22) dJ23_untreeify_21 rfl rfl rfl ?_ | refine aw_aloadQ_n (i := 3) (q := 22) dJ23_untreeify_21 rfl rfl rfl ?_
        refine aw_ifnonnull_n (q := 25) dJ23_untreeify_22 rfl ?_
        first | refine aw_aload (q := 27) dJ23_untreeify_25 rfl rfl ?_ | refine aw_aloadN (q := 27) dJ23_untreeify_25 rfl rfl ?_ | refine aw_aloadQ (q := 27) dJ23_untreeify_25 rfl rfl ?_
        first | refine aw_astore_n (i := 2) (q := 28) dJ23_untreeify_27 rfl (by decide) rfl ?_ | refine aw_astoreN_n (i := 2) (q := 28) dJ23_untreeify_27 rfl (by decide) rfl ?_ | refine aw_astoreQ_n (i := 2) (q := 28) dJ23_untreeify_27 rfl (by decide) rfl ?_
        refine aw_goto (tgt := 37) dJ23_untreeify_28 (by decide) ?_
        exact AW.bud (aw_locals (by exact ⟨rfl, by (show some (Value.ref c) = some (Value.ref (upN ν' x c x)); rw [upN_eq]), rfl, rfl, trivial⟩) (back μ2 _ _ c upN_eq.symm hP3 hcs hnw2 hk2)) (by omega) (by omega)
      · have hyd : y ∈ dm ++ [y] := List.mem_append_right _ List.mem_cons_self
        have hyx : y ≠ x := fun e => hxd (e ▸ hyd)
        have ehd := ehd (by simp)
        rw [zLast] at hcs ⊢
        simp only [Option.map_some, zrf_s]
        obtain ⟨-, hy3⟩ := hP3 y (List.mem_append_left _ hyd)
        have hy4 := hy3
        rw [upN_ne hyx] at hy4
        first | refine aw_astore (q := 21) dJ23_untreeify_19 (by decide) rfl ?_ | refine aw_astoreN (q := 21) dJ23_untreeify_19 (by decide) rfl ?_ | refine aw_astoreQ (q := 21) dJ23_untreeify_19 (by decide) rfl ?_
        try simp (config := {decide := true}) only [zput, zdel_q, zdel_f, zdel_t, zdel_nil, zdel_r, zdel_i, zdel_n]
        first | refine aw_aload_n (i := 3) (q := 22) dJ23_untreeify_21 rfl rfl rfl ?_ | refine aw_aloadN_n (i := 3) (q := 22) dJ23_untreeify_21 rfl rfl rfl ?_ | refine aw_aloadQ_n (i := 3) (q := 22) dJ23_untreeify_21 rfl rfl rfl ?_
        refine aw_ifnonnull_r (tgt := 31) dJ23_untreeify_22 (by decide) ?_
        first | refine aw_aload_n (i := 3) (q := 32) dJ23_untreeify_31 rfl rfl rfl ?_ | refine aw_aloadN_n (i := 3) (q := 32) dJ23_untreeify_31 rfl rfl rfl ?_ | refine aw_aloadQ_n (i := 3) (q := 32) dJ23_untreeify_31 rfl rfl rfl ?_
        first | refine aw_aload (q := 34) dJ23_untreeify_32 rfl rfl ?_ | refine aw_aloadN (q := 34) dJ23_untreeify_32 rfl rfl ?_ | refine aw_aloadQ (q := 34) dJ23_untreeify_32 rfl rfl ?_
        first | refine aw_putfield (q := 37) dJ23_untreeify_34 gf_J23_112_13 hy4 (by first | assumption | simp) (by first | rfl | exact znar_rf _ _ | exact zB_nar _) (by first | rfl | exact zfit_rf _ _ | exact zB_fit _) (Nat.le_of_ble_eq_true rfl) rfl (fun μ3 hg_μ3 => ?_) | refine aw_putfield (q := 37) dJ23_untreeify_34 gf_J23_112_15 hy4 (by first | assumption | simp) (by first | rfl | exact znar_rf _ _ | exact zB_nar _) (by first | rfl | exact zfit_rf _ _ | exact zB_fit _) (Nat.le_of_ble_eq_true rfl) rfl (fun μ3 hg_μ3 => ?_)
        have hy4 : μ3 _ = some _ := hg_μ3 ▸ updM_eq _ _ _
        simp only [List.set] at hy4 hg_μ3
        have hP4 := hP3.p_nx (μ' := μ3) (List.mem_append_left _ hyd) (some x) (by rw [upN_ne hyx, Option.map_some, upN_eq]; exact hg_μ3)
        have hk3 : zKp (fun _ _ => False) μ μ3 := by
          intro a t e ha hn
          have g := hk2 a t e ha hn
          rw [hg_μ3, updM_ne ?_]
          · exact g
          · exact zneN ha (hnw y hyd)
        exact AW.bud (aw_locals (by exact ⟨rfl, by (rw [ehd]; rfl), rfl, rfl, trivial⟩) (back μ3 _ _ c upN_eq.symm hP4 hcs hnw2 hk3)) (by omega) (by omega)
  have hz : zPn μ R o (fun _ => 0) ky vl (fun _ => none) (· ∈ ([] : List Nat)) := fun h hh => absurd hh List.not_mem_nil
  exact AW.bud (aw_locals (by exact ⟨rfl, rfl, rfl, by (rw [hf]; rfl), trivial⟩) (loop l [] rfl hc μ _ _ hz trivial (fun y hy => absurd hy List.not_mem_nil) zKp.rf)) (by omega) (by omega)
end ZUN
section ZSP
variable {G : zG} {μ : zM} {R o : Nat} {ν ky vl : Nat → Nat} {nx pa le ri pv : Nat → Option Nat} {rd : Nat → Int32} {a b : Nat → Int}
/-- what split leaves -/
def zSpl (G : zG) (μ : zM) (R o tab n j cap : Nat) (ky vl : Nat → Nat) (ft : Nat → Option Nat) (l : List Nat) : Option Value → zM → Prop := fun v μ' => v = none ∧ ∃ (ft' : Nat → Option Nat) (lo hi : List Nat) (tlo thi : Bool), μ' tab = some (hbT R o, aN G (2 * n) ft') ∧ (∀ i, i ≠ j → i ≠ j + n → ft' i = ft i) ∧ zBin μ' R o cap ky vl tlo (ft' j) lo ∧ zBin μ' R o cap ky vl thi (ft' (j + n)) hi ∧ (∀ x, x ∈ lo ↔ x ∈ l ∧ x / n % 2 = 0) ∧ (∀ x, x ∈ hi ↔ x ∈ l ∧ ¬ x / n % 2 = 0) ∧ zKp (fun c u => c = tab ∨ ∃ h, h ∈ l ∧ u = hnT R o h) μ μ'
theorem zTfd.bin {μ μ' : zM} {tb n i cap : Nat} {ft : Nat → Option Nat} {l : List Nat} {v : Option Value} (h : zTfd G μ R o tb n i ν ky vl ft l v μ') : ∃ (f : Option Nat) (l' : List Nat), μ' tb = some (hbT R o, aN G n (va_up ft i f)) ∧ zBin μ' R o cap ky vl true f l' ∧ (∀ x, x ∈ l' ↔ x ∈ l) ∧ zKp (fun c u => c = tb ∨ ∃ h, h ∈ l ∧ u = hnT R o h) μ μ' := by
  obtain ⟨-, nx', pa', le', ri', pv', rd', a, b, l', h1, h2, h3, h4, h5, h6, h7, h8⟩ := h
  exact ⟨_, l', h3, ⟨ν, nx', rfl, h4, h6, fun q => by (cases q), fun _ => ⟨pa', le', ri', pv', rd', a, b, fun x hx => h1 x ((h7 x).mp hx), h2.congr (fun x => (h7 x).symm) (fun _ _ => ⟨rfl, rfl, rfl⟩), h5⟩⟩, h7, h8⟩
set_option maxHeartbeats 4000000 in
/-- 171: the high half -/
theorem spl_hi {m tab n k j cap : Nat} {ft ft2 : Nat → Option Nat} {l lo hi : List Nat} {μ2 : zM} {tlo : Bool} {lh : Option Nat} {tm : zT} {fs : List Value} {L : List (Nat × Value)} (hL : zLs L [(1, .ref m), (2, .ref tab), (3, .int (nI j)), (4, .int (nI n)), (6, va_rf lh), (8, va_rf (hi.head?.map ν)), (11, .int (nI hi.length))])
    (hm : μ2 m = some (tm, .inr (19, fs))) (hn : 2 ^ k = n) (hk : k < 8) (hj : j < n) (hR : 1 ≤ R) (hcap : 6 ≤ cap) (htb : μ2 tab = some (hbT R o, aN G (2 * n) ft2)) (hft : ∀ i, i ≠ j → i ≠ j + n → ft2 i = ft i) (hlo : zBin μ2 R o cap ky vl tlo (ft2 j) lo) (hftn : ft2 (j + n) = none) (hT : zTn μ2 R o ν ky vl nx pa le ri pv rd (· ∈ hi)) (hc : zCh nx hi) (hv : zPv pv none hi) (hnd : hi.Nodup) (hlh : lh = none → zTree (· ∈ hi) zKap pa le ri a b)
    (hlm : ∀ x, x ∈ lo ↔ x ∈ l ∧ x / n % 2 = 0) (hhm : ∀ x, x ∈ hi ↔ x ∈ l ∧ ¬ x / n % 2 = 0) (hmod : ∀ x, x ∈ hi → x % (2 * n) = j + n) (hkp : zKp (fun c u => c = tab ∨ ∃ h, h ∈ l ∧ u = hnT R o h) μ μ2) (hlen : hi.length < 2 ^ 20) :
    AW G 5 MJ23_split (zSpl G μ R o tab n j cap ky vl ft l) hi.length (4 * hi.length) 171 L [] μ2 := by
  have hn256 : n ≤ 2 ^ 7 := hn ▸ Nat.pow_le_pow_right (by decide) (by omega)
  have hdis : ∀ x, x ∈ lo → x ∉ hi := fun x h1 h2 => ((hhm x).mp h2).2 ((hlm x).mp h1).2
  have htz : hbT R o ≠ zC := fun e => by have e1 : R + 1 = 0 := congrArg Prod.fst e; omega
  have hdj : j ≠ j + n := by omega
  refine aw_locals hL ?_
  rcases hi with _ | ⟨x0, hi'⟩
  · simp only [List.head?_nil, Option.map_none, zrf_n]
    first | refine aw_aload (q := 173) dJ23_split_171 rfl rfl ?_ | refine aw_aloadN (q := 173) dJ23_split_171 rfl rfl ?_ | refine aw_aloadQ (q := 173) dJ23_split_171 rfl rfl ?_
    refine aw_ifnull_n (tgt := 217) dJ23_split_173 (by decide) ?_
    exact aw_return dJ23_split_217 rfl (⟨rfl, ft2, lo, [], tlo, false, htb, hft, hlo, hftn ▸ zBin.nil, hlm, hhm, hkp⟩)
  · generalize hhi : x0 :: hi' = hi at *
    have hx0 : hi.head? = some x0 := by rw [← hhi]; rfl
    have hx0m : x0 ∈ hi := List.mem_of_mem_head? hx0
    have hf : hi.head?.map ν = some (ν x0) := by rw [hx0]; rfl
    rw [hf]
    simp only [zrf_s]
    have hx1 := (hT x0 hx0m).2
    by_cases h6 : hi.length ≤ 6
    · refine AW.bud (bc' := 0 + hi.length) (bs' := 0 + 4 * hi.length) ?_ (by omega) (by omega)
      first | refine aw_aload (q := 173) dJ23_split_171 rfl rfl ?_ | refine aw_aloadN (q := 173) dJ23_split_171 rfl rfl ?_ | refine aw_aloadQ (q := 173) dJ23_split_171 rfl rfl ?_
      refine aw_ifnull_r (q := 176) dJ23_split_173 rfl ?_
      refine aw_iload (q := 178) dJ23_split_176 rfl rfl ?_
      refine aw_bipush (v := 6) (q := 180) dJ23_split_178 rfl rfl ?_
      refine aw_icmp_gt (tgt := 198) (q := 183) dJ23_split_180 (by decide) rfl (fun hZ => absurd hZ ((fun q => absurd q (Int32.not_lt.mpr (nI_le (b := 6) h6 (by decide)))))) (fun _ => ?_)
      first | refine aw_aload_n (i := 2) (q := 184) dJ23_split_183 rfl rfl rfl ?_ | refine aw_aloadN_n (i := 2) (q := 184) dJ23_split_183 rfl rfl rfl ?_ | refine aw_aloadQ_n (i := 2) (q := 184) dJ23_split_183 rfl rfl rfl ?_
      refine aw_iload_n (i := 3) (q := 185) dJ23_split_184 rfl rfl rfl ?_
      refine aw_iload (q := 187) dJ23_split_185 rfl rfl ?_
      refine aw_iadd (q := 188) dJ23_split_187 rfl ?_
      first | refine aw_aload (q := 190) dJ23_split_188 rfl rfl ?_ | refine aw_aloadN (q := 190) dJ23_split_188 rfl rfl ?_ | refine aw_aloadQ (q := 190) dJ23_split_188 rfl rfl ?_
      first | refine aw_aload_n (i := 1) (q := 191) dJ23_split_190 rfl rfl rfl ?_ | refine aw_aloadN_n (i := 1) (q := 191) dJ23_split_190 rfl rfl rfl ?_ | refine aw_aloadQ_n (i := 1) (q := 191) dJ23_split_190 rfl rfl rfl ?_
      rw [nI_add]
      refine aw_callV (q := 194) dJ23_split_191 (C_untreeify hm hT hc hnd hx0) cv_J23_119_15 (by assumption) rfl rfl (by decide) (by decide) (by first | exact Nat.le_of_ble_eq_true rfl | simp [zcat_rf, Value.category]) rfl (fun v191 μ3 hp => ?_)
      obtain ⟨ν', nx', rfl, u1, u2, u3⟩ := hp
      rw [show va_rf (hi.head?.map ν') = .ref (ν' x0) by rw [hx0]; rfl]
      have hy := (u1 x0 hx0m).2
      have htb3 := u3 _ _ _ htb (fun q => q)
      refine aw_aastX (j := 5) (E := "java/util/HashMap$Node") (j + n) (q := 195) dJ23_split_194 rfl htb3 htz hy ca_13_J18 rfl (by omega) (by omega) rfl (fun μ4 hg_μ4 => ?_)
      have htb4 : μ4 tab = some _ := hg_μ4 ▸ updM_eq _ _ _
      have hk4 : zKp (fun c _ => c = tab) μ3 μ4 := hg_μ4 ▸ zKp.up
      have hk24 : zKp (fun c _ => c = tab) μ2 μ4 := (u3.mono (fun _ _ q => q.elim)).tr hk4
      have htn : ∀ h c e, μ2 c = some (hnT R o h, e) → c ≠ tab := fun h c e hc q => by
        rw [q, htb] at hc
        have e1 : R + 1 = R + 2 + h := congrArg Prod.fst (congrArg Prod.fst (Option.some.inj hc))
        omega
      have htn3 : ∀ h c e, μ3 c = some (hnT R o h, e) → c ≠ tab := fun h c e hc q => by
        rw [q, htb3] at hc
        have e1 : R + 1 = R + 2 + h := congrArg Prod.fst (congrArg Prod.fst (Option.some.inj hc))
        omega
      have hlo3 : zBin μ3 R o cap ky vl tlo (ft2 j) lo := hlo.kp u3 (fun _ _ _ q => q)
      have hlo4 : zBin μ4 R o cap ky vl tlo (ft2 j) lo := by
        have hk4' : zKp (fun c u => c = tab ∧ u = hbT R o) μ3 μ4 := by
          intro c t e hc hnn
          by_cases q : c = tab
          · rw [q, htb3] at hc
            cases hc
            exact absurd ⟨q, rfl⟩ hnn
          · exact hk4 c t e hc q
        exact hlo3.kp hk4' (fun x c _ q => by have e1 : R + 2 + x = R + 1 := congrArg Prod.fst q.2; omega)
      have u1' : zPn μ4 R o ν' ky vl nx' (· ∈ hi) := fun x hx => ⟨(u1 x hx).1, hg_μ4 ▸ (updM_ne (htn3 _ _ _ (u1 x hx).2)).trans (u1 x hx).2⟩
      have hhi4 : zBin μ4 R o cap ky vl false (some (ν' x0)) hi := ⟨ν', nx', by rw [hx0]; rfl, u2, hnd, fun _ => ⟨u1', by omega⟩, fun q => by cases q⟩
      refine aw_goto (tgt := 217) dJ23_split_195 (by decide) ?_
      exact aw_return dJ23_split_217 rfl (⟨rfl, _, lo, hi, tlo, false, htb4, fun i h1 h2 => (va_up_ne _ _ h2).trans (hft i h1 h2), by rw [va_up_ne _ _ hdj]; exact hlo4, by rw [va_up_self]; exact hhi4, hlm, hhm, hkp.tr (hk24.mono (fun _ _ q => Or.inl q))⟩)
    · refine AW.bud (bc' := 0) (bs' := 0) ?_ (by omega) (by omega)
      first | refine aw_aload (q := 173) dJ23_split_171 rfl rfl ?_ | refine aw_aloadN (q := 173) dJ23_split_171 rfl rfl ?_ | refine aw_aloadQ (q := 173) dJ23_split_171 rfl rfl ?_
      refine aw_ifnull_r (q := 176) dJ23_split_173 rfl ?_
      refine aw_iload (q := 178) dJ23_split_176 rfl rfl ?_
      refine aw_bipush (v := 6) (q := 180) dJ23_split_178 rfl rfl ?_
      refine aw_icmp_gt (tgt := 198) (q := 183) dJ23_split_180 (by decide) rfl (fun _ => ?_) (fun hZ => absurd ((nI_lt (a := 6) (by omega) (by omega))) hZ)
      first | refine aw_aload_n (i := 2) (q := 199) dJ23_split_198 rfl rfl rfl ?_ | refine aw_aloadN_n (i := 2) (q := 199) dJ23_split_198 rfl rfl rfl ?_ | refine aw_aloadQ_n (i := 2) (q := 199) dJ23_split_198 rfl rfl rfl ?_
      refine aw_iload_n (i := 3) (q := 200) dJ23_split_199 rfl rfl rfl ?_
      refine aw_iload (q := 202) dJ23_split_200 rfl rfl ?_
      refine aw_iadd (q := 203) dJ23_split_202 rfl ?_
      first | refine aw_aload (q := 205) dJ23_split_203 rfl rfl ?_ | refine aw_aloadN (q := 205) dJ23_split_203 rfl rfl ?_ | refine aw_aloadQ (q := 205) dJ23_split_203 rfl rfl ?_
      rw [nI_add]
      refine aw_aastX (j := 5) (E := "java/util/HashMap$Node") (j + n) (q := 206) dJ23_split_205 rfl htb htz hx1 ca_15_J18 rfl (by omega) (by omega) rfl (fun μ4 hg_μ4 => ?_)
      have htb4 : μ4 tab = some _ := hg_μ4 ▸ updM_eq _ _ _
      have hk4 : zKp (fun c u => c = tab ∧ u = hbT R o) μ2 μ4 := by
        intro c t e hc hnn
        by_cases q : c = tab
        · rw [q, htb] at hc
          cases hc
          exact absurd ⟨q, rfl⟩ hnn
        · rw [hg_μ4, updM_ne q]; exact hc
      have nT : ∀ x c, ¬ (c = tab ∧ hnT R o x = hbT R o) := fun x c q => by have e1 : R + 2 + x = R + 1 := congrArg Prod.fst q.2; omega
      have hT4 : zTn μ4 R o ν ky vl nx pa le ri pv rd (· ∈ hi) := hT.kp hk4 (fun x c _ => nT x c)
      have hlo4 : zBin μ4 R o cap ky vl tlo (ft2 j) lo := hlo.kp hk4 (fun x c _ => nT x c)
      have hkp4 := hkp.tr (hk4.mono (fun c u q => Or.inl q.1))
      first | refine aw_aload (q := 208) dJ23_split_206 rfl rfl ?_ | refine aw_aloadN (q := 208) dJ23_split_206 rfl rfl ?_ | refine aw_aloadQ (q := 208) dJ23_split_206 rfl rfl ?_
      cases lh with
      | none =>
        simp only [zrf_n]
        refine aw_ifnull_n (tgt := 217) dJ23_split_208 (by decide) ?_
        have hhi4 : zBin μ4 R o cap ky vl true (some (ν x0)) hi := ⟨ν, nx, by rw [hx0]; rfl, hc, hnd, fun q => by (cases q), fun _ => ⟨pa, le, ri, pv, rd, a, b, hT4, hlh rfl, hv⟩⟩
        exact aw_return dJ23_split_217 rfl (⟨rfl, _, lo, hi, tlo, true, htb4, fun i h1 h2 => (va_up_ne _ _ h2).trans (hft i h1 h2), by rw [va_up_ne _ _ hdj]; exact hlo4, by rw [va_up_self]; exact hhi4, hlm, hhm, hkp4⟩)
      | some y =>
        have hx4 := (hT4 x0 hx0m).2
        simp only [zrf_s]
        refine aw_ifnull_r (q := 211) dJ23_split_208 rfl ?_
        first | refine aw_aload (q := 213) dJ23_split_211 rfl rfl ?_ | refine aw_aloadN (q := 213) dJ23_split_211 rfl rfl ?_ | refine aw_aloadQ (q := 213) dJ23_split_211 rfl rfl ?_
        first | refine aw_aload_n (i := 2) (q := 214) dJ23_split_213 rfl rfl rfl ?_ | refine aw_aloadN_n (i := 2) (q := 214) dJ23_split_213 rfl rfl rfl ?_ | refine aw_aloadQ_n (i := 2) (q := 214) dJ23_split_213 rfl rfl rfl ?_
        refine aw_callV (q := 217) dJ23_split_214 (C_treeify (k := k + 1) (n := 2 * n) (i := j + n) hT4 htb4 (by rw [← hn, Nat.pow_succ, Nat.mul_comm]) (by omega) hmod (by rw [va_up_self, hf]) hx0 hc hv hnd hR) cv_J23_126_15 (by assumption) rfl rfl (by decide) (by decide) (by first | exact Nat.le_of_ble_eq_true rfl | simp [zcat_rf, Value.category]) rfl (fun v214 μ5 hp => ?_)
        have hpost := hp
        have hv5 := hpost.1
        subst hv5
        obtain ⟨f, l', t1, t2, t3, t4⟩ := hpost.bin (cap := cap)
        have hlo5 : zBin μ5 R o cap ky vl tlo (ft2 j) lo := by
          have t4' : zKp (fun c u => u = hbT R o ∨ ∃ h, h ∈ hi ∧ u = hnT R o h) μ4 μ5 := by
            intro c t e hc hnn
            refine t4 c t e hc (fun q => hnn (q.elim (fun q => Or.inl ?_) Or.inr))
            rw [q, htb4] at hc
            cases hc
            rfl
          refine hlo4.kp t4' (fun x c hx q => ?_)
          rcases q with q | ⟨h, h1, q⟩
          · have e1 : R + 2 + x = R + 1 := congrArg Prod.fst q; omega
          · exact hdis x hx (hnT_in q ▸ h1)
        exact aw_return dJ23_split_217 rfl (⟨rfl, _, lo, l', tlo, true, t1, fun i h1 h2 => ((va_up_ne _ _ h2).trans (va_up_ne _ _ h2)).trans (hft i h1 h2), by rw [va_up_ne _ _ hdj, va_up_ne _ _ hdj]; exact hlo5, by rw [va_up_self]; exact t2, hlm, fun x => (t3 x).trans (hhm x), hkp4.tr (t4.mono (fun c u q => q.imp id (fun ⟨h, h1, h2⟩ => ⟨h, ((hhm h).mp h1).1, h2⟩)))⟩)
set_option maxHeartbeats 4000000 in
/-- 131: the low half, then the high -/
theorem spl_lo {m tab n k j cap : Nat} {ft : Nat → Option Nat} {l lo hi : List Nat} {μ2 : zM} {tm : zT} {fs : List Value} {L : List (Nat × Value)} (hL : zLs L [(1, .ref m), (2, .ref tab), (3, .int (nI j)), (4, .int (nI n)), (6, va_rf (lo.head?.map ν)), (8, va_rf (hi.head?.map ν)), (10, .int (nI lo.length)), (11, .int (nI hi.length))])
    (hm : μ2 m = some (tm, .inr (19, fs))) (hmt : tm = hmT R o) (hn : 2 ^ k = n) (hk : k < 8) (hj : j < n) (hR : 1 ≤ R) (hcap : 6 ≤ cap) (htb : μ2 tab = some (hbT R o, aN G (2 * n) ft)) (hft0 : ft j = none) (hftn : ft (j + n) = none) (hT : zTn μ2 R o ν ky vl nx pa le ri pv rd (· ∈ l)) (hTr : zTree (· ∈ l) zKap pa le ri a b) (hc1 : zCh nx lo) (hc2 : zCh nx hi) (hv1 : zPv pv none lo) (hv2 : zPv pv none hi) (hnd1 : lo.Nodup) (hnd2 : hi.Nodup)
    (hlm : ∀ x, x ∈ lo ↔ x ∈ l ∧ x / n % 2 = 0) (hhm : ∀ x, x ∈ hi ↔ x ∈ l ∧ ¬ x / n % 2 = 0) (hmod : ∀ x, x ∈ l → x % n = j) (hkp : zKp (fun c u => c = tab ∨ ∃ h, h ∈ l ∧ u = hnT R o h) μ μ2) (hlen : lo.length < 2 ^ 20) (hlen2 : hi.length < 2 ^ 20) :
    AW G 5 MJ23_split (zSpl G μ R o tab n j cap ky vl ft l) (lo.length + hi.length) (4 * (lo.length + hi.length)) 131 L [] μ2 := by
  subst hmt
  have hn256 : n ≤ 2 ^ 7 := hn ▸ Nat.pow_le_pow_right (by decide) (by omega)
  have hdis : ∀ x, x ∈ lo → x ∉ hi := fun x h1 h2 => ((hhm x).mp h2).2 ((hlm x).mp h1).2
  have htz : hbT R o ≠ zC := fun e => by have e1 : R + 1 = 0 := congrArg Prod.fst e; omega
  have hdj : j + n ≠ j := by omega
  have hmodL : ∀ x, x ∈ lo → x % (2 * n) = j := fun x hx => by
    obtain ⟨h1, h2⟩ := (hlm x).mp hx
    rw [i_half.1 h2]; exact hmod x h1
  have hmodH : ∀ x, x ∈ hi → x % (2 * n) = j + n := fun x hx => by
    obtain ⟨h1, h2⟩ := (hhm x).mp hx
    rw [i_half.2 h2, hmod x h1]
  have hTh : zTn μ2 R o ν ky vl nx pa le ri pv rd (· ∈ hi) := hT.mono (fun x hx => ((hhm x).mp hx).1)
  have hTl : zTn μ2 R o ν ky vl nx pa le ri pv rd (· ∈ lo) := hT.mono (fun x hx => ((hlm x).mp hx).1)
  have hlh : lo = [] → zTree (· ∈ hi) zKap pa le ri a b := fun e => hTr.congr (fun x => ⟨fun q => (hhm x).mpr ⟨q, fun z => by (have := (hlm x).mpr ⟨q, z⟩; rw [e] at this; exact absurd this List.not_mem_nil)⟩, fun q => ((hhm x).mp q).1⟩) (fun _ _ => ⟨rfl, rfl, rfl⟩)
  have hhl : hi = [] → zTree (· ∈ lo) zKap pa le ri a b := fun e => hTr.congr (fun x => ⟨fun q => (hlm x).mpr ⟨q, Decidable.byContradiction (fun z => by (have := (hhm x).mpr ⟨q, z⟩; rw [e] at this; exact absurd this List.not_mem_nil))⟩, fun q => ((hlm x).mp q).1⟩) (fun _ _ => ⟨rfl, rfl, rfl⟩)
  have nT : ∀ x (c : Nat), ¬ (c = tab ∧ hnT R o x = hbT R o) := fun x c q => by have e1 : R + 2 + x = R + 1 := congrArg Prod.fst q.2; omega
  have nM : ∀ (c : Nat), ¬ (c = tab ∧ hmT R o = hbT R o) := fun c q => by have e1 : R = R + 1 := congrArg Prod.fst q.2; omega
  refine aw_locals hL ?_
  rcases lo with _ | ⟨x0, lo'⟩
  · simp only [List.head?_nil, Option.map_none, zrf_n]
    first | refine aw_aload (q := 133) dJ23_split_131 rfl rfl ?_ | refine aw_aloadN (q := 133) dJ23_split_131 rfl rfl ?_ | refine aw_aloadQ (q := 133) dJ23_split_131 rfl rfl ?_
    refine aw_ifnull_n (tgt := 171) dJ23_split_133 (by decide) ?_
    refine AW.bud (spl_hi (lh := none) (tlo := false) (lo := []) (a := a) (b := b) ?_ hm hn hk hj hR hcap htb (fun _ _ _ => rfl) (hft0 ▸ zBin.nil) hftn hTh hc2 hv2 hnd2 (fun _ => hlh rfl) hlm hhm hmodH hkp hlen2) (by simp) (by simp)
    exact ⟨rfl, rfl, rfl, rfl, rfl, rfl, rfl, trivial⟩
  · generalize hhi : x0 :: lo' = lo at *
    have hx0 : lo.head? = some x0 := by rw [← hhi]; rfl
    have hx0m : x0 ∈ lo := List.mem_of_mem_head? hx0
    have hf : lo.head?.map ν = some (ν x0) := by rw [hx0]; rfl
    rw [hf]
    simp only [zrf_s]
    have hx1 := (hTl x0 hx0m).2
    by_cases h6 : lo.length ≤ 6
    · refine AW.bud (bc' := hi.length + lo.length) (bs' := 4 * hi.length + 4 * lo.length) ?_ (by omega) (by omega)
      first | refine aw_aload (q := 133) dJ23_split_131 rfl rfl ?_ | refine aw_aloadN (q := 133) dJ23_split_131 rfl rfl ?_ | refine aw_aloadQ (q := 133) dJ23_split_131 rfl rfl ?_
      refine aw_ifnull_r (q := 136) dJ23_split_133 rfl ?_
      refine aw_iload (q := 138) dJ23_split_136 rfl rfl ?_
      refine aw_bipush (v := 6) (q := 140) dJ23_split_138 rfl rfl ?_
      refine aw_icmp_gt (tgt := 155) (q := 143) dJ23_split_140 (by decide) rfl (fun hZ => absurd hZ ((fun q => absurd q (Int32.not_lt.mpr (nI_le (b := 6) h6 (by decide)))))) (fun _ => ?_)
      first | refine aw_aload_n (i := 2) (q := 144) dJ23_split_143 rfl rfl rfl ?_ | refine aw_aloadN_n (i := 2) (q := 144) dJ23_split_143 rfl rfl rfl ?_ | refine aw_aloadQ_n (i := 2) (q := 144) dJ23_split_143 rfl rfl rfl ?_
      refine aw_iload_n (i := 3) (q := 145) dJ23_split_144 rfl rfl rfl ?_
      first | refine aw_aload (q := 147) dJ23_split_145 rfl rfl ?_ | refine aw_aloadN (q := 147) dJ23_split_145 rfl rfl ?_ | refine aw_aloadQ (q := 147) dJ23_split_145 rfl rfl ?_
      first | refine aw_aload_n (i := 1) (q := 148) dJ23_split_147 rfl rfl rfl ?_ | refine aw_aloadN_n (i := 1) (q := 148) dJ23_split_147 rfl rfl rfl ?_ | refine aw_aloadQ_n (i := 1) (q := 148) dJ23_split_147 rfl rfl rfl ?_
      refine aw_callV (q := 151) dJ23_split_148 (C_untreeify hm hTl hc1 hnd1 hx0) cv_J23_119_15 (by assumption) rfl rfl (by decide) (by decide) (by first | exact Nat.le_of_ble_eq_true rfl | simp [zcat_rf, Value.category]) rfl (fun v148 μ3 hp => ?_)
      obtain ⟨ν', nx', rfl, u1, u2, u3⟩ := hp
      rw [show va_rf (lo.head?.map ν') = .ref (ν' x0) by rw [hx0]; rfl]
      have hy := (u1 x0 hx0m).2
      have htb3 := u3 _ _ _ htb (fun q => q)
      refine aw_aastX (j := 5) (E := "java/util/HashMap$Node") j (q := 152) dJ23_split_151 rfl htb3 htz hy ca_13_J18 rfl (by omega) (by omega) rfl (fun μ4 hg_μ4 => ?_)
      have htb4 : μ4 tab = some _ := hg_μ4 ▸ updM_eq _ _ _
      have hk4 : zKp (fun c u => c = tab ∧ u = hbT R o) μ3 μ4 := by
        intro c t e hc hnn
        by_cases q : c = tab
        · rw [q, htb3] at hc
          cases hc
          exact absurd ⟨q, rfl⟩ hnn
        · rw [hg_μ4, updM_ne q]; exact hc
      have hk24 : zKp (fun c u => c = tab ∧ u = hbT R o) μ2 μ4 := (u3.mono (fun _ _ q => q.elim)).tr hk4
      have u1' : zPn μ4 R o ν' ky vl nx' (· ∈ lo) := u1.kp hk4 (fun x c _ => nT x c)
      have hlo4 : zBin μ4 R o cap ky vl false (some (ν' x0)) lo := ⟨ν', nx', by rw [hx0]; rfl, u2, hnd1, fun _ => ⟨u1', by omega⟩, fun q => by cases q⟩
      have hT4 : zTn μ4 R o ν ky vl nx pa le ri pv rd (· ∈ hi) := hTh.kp hk24 (fun x c _ => nT x c)
      have hm4 := hk24 _ _ _ hm (nM _)
      refine aw_goto (tgt := 171) dJ23_split_152 (by decide) ?_
      refine AW.bud (spl_hi (lh := some (ν x0)) (tlo := false) (lo := lo) (a := a) (b := b) ?_ hm4 hn hk hj hR hcap htb4 (fun i h1 _ => va_up_ne _ _ h1) (by rw [va_up_self]; exact hlo4) ((va_up_ne _ _ hdj).trans hftn) hT4 hc2 hv2 hnd2 (fun q => by cases q) hlm hhm hmodH (hkp.tr (hk24.mono (fun c u q => Or.inl q.1))) hlen2) (by first | omega | exact Nat.le_refl _) (by first | omega | exact Nat.le_refl _)
      exact ⟨rfl, rfl, rfl, rfl, rfl, rfl, rfl, trivial⟩
    · refine AW.bud (bc' := hi.length) (bs' := 4 * hi.length) ?_ (by omega) (by omega)
      first | refine aw_aload (q := 133) dJ23_split_131 rfl rfl ?_ | refine aw_aloadN (q := 133) dJ23_split_131 rfl rfl ?_ | refine aw_aloadQ (q := 133) dJ23_split_131 rfl rfl ?_
      refine aw_ifnull_r (q := 136) dJ23_split_133 rfl ?_
      refine aw_iload (q := 138) dJ23_split_136 rfl rfl ?_
      refine aw_bipush (v := 6) (q := 140) dJ23_split_138 rfl rfl ?_
      refine aw_icmp_gt (tgt := 155) (q := 143) dJ23_split_140 (by decide) rfl (fun _ => ?_) (fun hZ => absurd ((nI_lt (a := 6) (by omega) (by omega))) hZ)
      first | refine aw_aload_n (i := 2) (q := 156) dJ23_split_155 rfl rfl rfl ?_ | refine aw_aloadN_n (i := 2) (q := 156) dJ23_split_155 rfl rfl rfl ?_ | refine aw_aloadQ_n (i := 2) (q := 156) dJ23_split_155 rfl rfl rfl ?_
      refine aw_iload_n (i := 3) (q := 157) dJ23_split_156 rfl rfl rfl ?_
      first | refine aw_aload (q := 159) dJ23_split_157 rfl rfl ?_ | refine aw_aloadN (q := 159) dJ23_split_157 rfl rfl ?_ | refine aw_aloadQ (q := 159) dJ23_split_157 rfl rfl ?_
      refine aw_aastX (j := 5) (E := "java/util/HashMap$Node") j (q := 160) dJ23_split_159 rfl htb htz hx1 ca_15_J18 rfl (by omega) (by omega) rfl (fun μ4 hg_μ4 => ?_)
      have htb4 : μ4 tab = some _ := hg_μ4 ▸ updM_eq _ _ _
      have hk4 : zKp (fun c u => c = tab ∧ u = hbT R o) μ2 μ4 := by
        intro c t e hc hnn
        by_cases q : c = tab
        · rw [q, htb] at hc
          cases hc
          exact absurd ⟨q, rfl⟩ hnn
        · rw [hg_μ4, updM_ne q]; exact hc
      have hTl4 : zTn μ4 R o ν ky vl nx pa le ri pv rd (· ∈ lo) := hTl.kp hk4 (fun x c _ => nT x c)
      have hTh4 : zTn μ4 R o ν ky vl nx pa le ri pv rd (· ∈ hi) := hTh.kp hk4 (fun x c _ => nT x c)
      have hm4 := hk4 _ _ _ hm (nM _)
      have hkp4 := hkp.tr (hk4.mono (fun c u q => Or.inl q.1))
      first | refine aw_aload (q := 162) dJ23_split_160 rfl rfl ?_ | refine aw_aloadN (q := 162) dJ23_split_160 rfl rfl ?_ | refine aw_aloadQ (q := 162) dJ23_split_160 rfl rfl ?_
      rcases hi with _ | ⟨y0, hi'⟩
      · simp only [List.head?_nil, Option.map_none, zrf_n]
        refine aw_ifnull_n (tgt := 171) dJ23_split_162 (by decide) ?_
        have hlo4 : zBin μ4 R o cap ky vl true (some (ν x0)) lo := ⟨ν, nx, by rw [hx0]; rfl, hc1, hnd1, fun q => by (cases q), fun _ => ⟨pa, le, ri, pv, rd, a, b, hTl4, hhl rfl, hv1⟩⟩
        refine AW.bud (spl_hi (lh := some (ν x0)) (tlo := true) (lo := lo) (hi := []) (a := a) (b := b) ?_ hm4 hn hk hj hR hcap htb4 (fun i h1 _ => va_up_ne _ _ h1) (by rw [va_up_self]; exact hlo4) ((va_up_ne _ _ hdj).trans hftn) hTh4 hc2 hv2 hnd2 (fun q => by cases q) hlm hhm hmodH hkp4 hlen2) (by first | omega | exact Nat.le_refl _) (by first | omega | exact Nat.le_refl _)
        exact ⟨rfl, rfl, rfl, rfl, rfl, rfl, rfl, trivial⟩
      · generalize hyi : y0 :: hi' = hi at *
        have hy0 : hi.head? = some y0 := by rw [← hyi]; rfl
        have hfy : hi.head?.map ν = some (ν y0) := by rw [hy0]; rfl
        have hx4 := (hTl4 x0 hx0m).2
        rw [hfy]
        simp only [zrf_s]
        refine aw_ifnull_r (q := 165) dJ23_split_162 rfl ?_
        first | refine aw_aload (q := 167) dJ23_split_165 rfl rfl ?_ | refine aw_aloadN (q := 167) dJ23_split_165 rfl rfl ?_ | refine aw_aloadQ (q := 167) dJ23_split_165 rfl rfl ?_
        first | refine aw_aload_n (i := 2) (q := 168) dJ23_split_167 rfl rfl rfl ?_ | refine aw_aloadN_n (i := 2) (q := 168) dJ23_split_167 rfl rfl rfl ?_ | refine aw_aloadQ_n (i := 2) (q := 168) dJ23_split_167 rfl rfl rfl ?_
        refine aw_callV (q := 171) dJ23_split_168 (C_treeify (k := k + 1) (n := 2 * n) (i := j) hTl4 htb4 (by rw [← hn, Nat.pow_succ, Nat.mul_comm]) (by omega) hmodL (by rw [va_up_self, hf]) hx0 hc1 hv1 hnd1 hR) cv_J23_126_15 (by assumption) rfl rfl (by decide) (by decide) (by first | exact Nat.le_of_ble_eq_true rfl | simp [zcat_rf, Value.category]) rfl (fun v168 μ5 hp => ?_)
        have hpost := hp
        have hv5 := hpost.1
        subst hv5
        obtain ⟨f, l', t1, t2, t3, t4⟩ := hpost.bin (cap := cap)
        have t4' : zKp (fun c u => u = hbT R o ∨ ∃ h, h ∈ lo ∧ u = hnT R o h) μ4 μ5 := by
          intro c t e hc hnn
          refine t4 c t e hc (fun q => hnn (q.elim (fun q => Or.inl ?_) Or.inr))
          rw [q, htb4] at hc
          cases hc
          rfl
        have hTh5 : zTn μ5 R o ν ky vl nx pa le ri pv rd (· ∈ hi) := by
          refine hTh4.kp t4' (fun x c hx q => ?_)
          rcases q with q | ⟨h, h1, q⟩
          · have e1 : R + 2 + x = R + 1 := congrArg Prod.fst q; omega
          · exact hdis h h1 (hnT_in q ▸ hx)
        have hm5 := t4' _ _ _ hm4 (fun q => by
          rcases q with q | ⟨h, h1, q⟩
          · have e1 : R = R + 1 := congrArg Prod.fst q; omega
          · have e1 : R = R + 2 + h := congrArg Prod.fst q; omega)
        refine AW.bud (spl_hi (lh := some (ν x0)) (tlo := true) (lo := l') (a := a) (b := b) ?_ hm5 hn hk hj hR hcap t1 (fun i h1 _ => (va_up_ne _ _ h1).trans (va_up_ne _ _ h1)) (by rw [va_up_self]; exact t2) ((va_up_ne _ _ hdj).trans ((va_up_ne _ _ hdj).trans hftn)) hTh5 hc2 hv2 hnd2 (fun q => by cases q) (fun x => (t3 x).trans (hlm x)) hhm hmodH (hkp4.tr (t4.mono (fun c u q => q.imp id (fun ⟨h, h1, h2⟩ => ⟨h, ((hlm h).mp h1).1, h2⟩)))) hlen2) (by first | omega | exact Nat.le_refl _) (by first | omega | exact Nat.le_refl _)
        exact ⟨rfl, rfl, rfl, rfl, rfl, by rw [hfy]; rfl, rfl, trivial⟩
set_option maxHeartbeats 8000000 in
theorem C_split {m tab n k j cap x0 : Nat} {ft : Nat → Option Nat} {l : List Nat} {fs : List Value} (hm : μ m = some (hmT R o, .inr (19, fs))) (hn : 2 ^ k = n) (hk : k < 8) (hj : j < n) (hR : 1 ≤ R) (hcap : 6 ≤ cap) (htb : μ tab = some (hbT R o, aN G (2 * n) ft)) (hft0 : ft j = none) (hftn : ft (j + n) = none) (hT : zTn μ R o ν ky vl nx pa le ri pv rd (· ∈ l)) (hTr : zTree (· ∈ l) zKap pa le ri a b) (hc : zCh nx l) (hnd : l.Nodup) (hx0 : l.head? = some x0) (hmod : ∀ x, x ∈ l → x % n = j) (hlen : l.length < 2 ^ 20) :
    Meets G 5 MJ23_split [.ref (ν x0), .ref m, .ref tab, .int (nI j), .int (nI n)] μ (zSpl G μ R o tab n j cap ky vl ft l) l.length (4 * l.length) := by
  have hn256 : n ≤ 2 ^ 7 := hn ▸ Nat.pow_le_pow_right (by decide) (by omega)
  have hf : l.head?.map ν = some (ν x0) := by rw [hx0]; rfl
  have nTB : ∀ x, hnT R o x ≠ hbT R o := fun x q => by have e1 : R + 2 + x = R + 1 := congrArg Prod.fst q; omega
  have nTM : ∀ x, hnT R o x ≠ hmT R o := fun x q => by have e1 : R + 2 + x = R := congrArg Prod.fst q; omega
  have loop : ∀ (rest lo hi : List Nat) (μ1 : zM) (nx pv : Nat → Option Nat), zTn μ1 R o ν ky vl nx pa le ri pv rd (· ∈ l) → zCh nx rest → zCh nx lo → zCh nx hi → zPv pv none lo → zPv pv none hi → rest.Nodup → lo.Nodup → hi.Nodup → (∀ x, x ∈ lo → x / n % 2 = 0 ∧ x ∉ rest) → (∀ x, x ∈ hi → ¬ x / n % 2 = 0 ∧ x ∉ rest) → (∀ x, x ∈ l ↔ x ∈ lo ∨ x ∈ hi ∨ x ∈ rest) → lo.length + hi.length + rest.length = l.length → zKp (zNt R o (· ∈ l)) μ μ1 →
      AW G 5 MJ23_split (zSpl G μ R o tab n j cap ky vl ft l) l.length (4 * l.length) 25 [(1, .ref m), (2, .ref tab), (3, .int (nI j)), (4, .int (nI n)), (6, va_rf (lo.head?.map ν)), (7, va_rf (lo.getLast?.map ν)), (8, va_rf (hi.head?.map ν)), (9, va_rf (hi.getLast?.map ν)), (10, .int (nI lo.length)), (11, .int (nI hi.length)), (12, va_rf (rest.head?.map ν))] [] μ1 := by
    intro rest
    induction rest with
    | nil =>
      intro lo hi μ1 nx pv hT hcr hcl hch hvl hvh hnr hnl hnh hlm hhm hmem hlens hkp
      simp only [List.length_nil, Nat.add_zero] at hlens
      have hm1 := hkp _ _ _ hm (fun ⟨h, _, q⟩ => nTM h q.symm)
      have htb1 := hkp _ _ _ htb (fun ⟨h, _, q⟩ => nTB h q.symm)
      simp only [List.head?_nil, Option.map_none, zrf_n]
      first | refine aw_aload (q := 27) dJ23_split_25 rfl rfl ?_ | refine aw_aloadN (q := 27) dJ23_split_25 rfl rfl ?_ | refine aw_aloadQ (q := 27) dJ23_split_25 rfl rfl ?_
      refine aw_ifnull_n (tgt := 131) dJ23_split_27 (by decide) ?_
      refine AW.bud (spl_lo (lo := lo) (hi := hi) (a := a) (b := b) ?_ hm1 rfl hn hk hj hR hcap htb1 hft0 hftn hT hTr hcl hch hvl hvh hnl hnh ?_ ?_ hmod (hkp.mono (fun c u q => Or.inr q)) (by omega) (by omega)) (by omega) (by omega)
      · exact ⟨rfl, rfl, rfl, rfl, rfl, rfl, rfl, rfl, trivial⟩
      · intro x
        rw [hmem x]
        constructor
        · intro q; exact ⟨Or.inl q, (hlm x q).1⟩
        · rintro ⟨q | q | q, h⟩
          · exact q
          · exact absurd h (hhm x q).1
          · exact absurd q List.not_mem_nil
      · intro x
        rw [hmem x]
        constructor
        · intro q; exact ⟨Or.inr (Or.inl q), (hhm x q).1⟩
        · rintro ⟨q | q | q, h⟩
          · exact absurd (hlm x q).1 h
          · exact q
          · exact absurd q List.not_mem_nil
    | cons x rest ih =>
      intro lo hi μ1 nx pv hT hcr hcl hch hvl hvh hnr hnl hnh hlm hhm hmem hlens hkp
      simp only [List.length_cons] at hlens
      have hxl : x ∈ l := (hmem x).mpr (Or.inr (Or.inr List.mem_cons_self))
      have hxr := List.nodup_cons.mp hnr
      have hxlo : x ∉ lo := fun q => (hlm x q).2 List.mem_cons_self
      have hxhi : x ∉ hi := fun q => (hhm x q).2 List.mem_cons_self
      obtain ⟨hx8, hx1⟩ := hT x hxl
      rw [hcr.1] at hx1
      have hcst : ∀ c, (rest.head?.map ν) = some c → ∃ t fs, μ1 c = some (t, .inr (15, fs)) := by
        intro c hcc
        cases rest with
        | nil => cases hcc
        | cons z rest =>
          cases hcc
          exact ⟨_, _, (hT z ((hmem z).mpr (Or.inr (Or.inr (List.mem_cons_of_mem _ List.mem_cons_self))))).2⟩
      simp only [List.head?_cons, Option.map_some, zrf_s]
      first | refine aw_aload (q := 27) dJ23_split_25 rfl rfl ?_ | refine aw_aloadN (q := 27) dJ23_split_25 rfl rfl ?_ | refine aw_aloadQ (q := 27) dJ23_split_25 rfl rfl ?_
      refine aw_ifnull_r (q := 30) dJ23_split_27 rfl ?_
      first | refine aw_aload (q := 32) dJ23_split_30 rfl rfl ?_ | refine aw_aloadN (q := 32) dJ23_split_30 rfl rfl ?_ | refine aw_aloadQ (q := 32) dJ23_split_30 rfl rfl ?_
      first | refine aw_getfield (q := 35) dJ23_split_32 gf_J23_22_13 (by assumption) rfl rfl ?_ | refine aw_getfield (q := 35) dJ23_split_32 gf_J23_22_15 (by assumption) rfl rfl ?_ | refine aw_nd (i := 3) (q := 35) dJ23_split_32 gf_J23_22_13 gf_J23_22_15 (by assumption) rfl rfl ?_
      refine aw_castQ (q := 38) dJ23_split_35 q744 (hcst) ca_15_J23 rfl ?_
      first | refine aw_astore (q := 40) dJ23_split_38 (by decide) rfl ?_ | refine aw_astoreN (q := 40) dJ23_split_38 (by decide) rfl ?_ | refine aw_astoreQ (q := 40) dJ23_split_38 (by decide) rfl ?_
      try simp (config := {decide := true}) only [zput, zdel_q, zdel_f, zdel_t, zdel_nil, zdel_r, zdel_i, zdel_n]
      first | refine aw_aload (q := 42) dJ23_split_40 rfl rfl ?_ | refine aw_aloadN (q := 42) dJ23_split_40 rfl rfl ?_ | refine aw_aloadQ (q := 42) dJ23_split_40 rfl rfl ?_
      refine aw_null (q := 43) dJ23_split_42 rfl ?_
      first | refine aw_putfield (q := 46) dJ23_split_43 gf_J23_22_13 hx1 (by first | assumption | simp) (by first | rfl | exact znar_rf _ _ | exact zB_nar _) (by first | rfl | exact zfit_rf _ _ | exact zB_fit _) (Nat.le_of_ble_eq_true rfl) rfl (fun μ2 hg_μ2 => ?_) | refine aw_putfield (q := 46) dJ23_split_43 gf_J23_22_15 hx1 (by first | assumption | simp) (by first | rfl | exact znar_rf _ _ | exact zB_nar _) (by first | rfl | exact zfit_rf _ _ | exact zB_fit _) (Nat.le_of_ble_eq_true rfl) rfl (fun μ2 hg_μ2 => ?_)
      have hx1 : μ2 _ = some _ := hg_μ2 ▸ updM_eq _ _ _
      simp only [List.set] at hx1 hg_μ2
      obtain ⟨hT2, hk2⟩ := hT.p_nx (μ' := μ2) hxl none hg_μ2
      have hcr2 : zCh (va_up nx x none) rest := hcr.2.congr (fun y hy => va_up_ne _ _ (fun e => hxr.1 (e ▸ hy)))
      have hcl2 : zCh (va_up nx x none) lo := hcl.congr (fun y hy => va_up_ne _ _ (fun e => hxlo (e ▸ hy)))
      have hch2 : zCh (va_up nx x none) hi := hch.congr (fun y hy => va_up_ne _ _ (fun e => hxhi (e ▸ hy)))
      first | refine aw_aload (q := 48) dJ23_split_46 rfl rfl ?_ | refine aw_aloadN (q := 48) dJ23_split_46 rfl rfl ?_ | refine aw_aloadQ (q := 48) dJ23_split_46 rfl rfl ?_
      first | refine aw_getfield (q := 51) dJ23_split_48 gf_J23_15_13 (by assumption) rfl rfl ?_ | refine aw_getfield (q := 51) dJ23_split_48 gf_J23_15_15 (by assumption) rfl rfl ?_ | refine aw_nd (i := 0) (q := 51) dJ23_split_48 gf_J23_15_13 gf_J23_15_15 (by assumption) rfl rfl ?_
      refine aw_iload (q := 53) dJ23_split_51 rfl rfl ?_
      refine aw_iand (q := 54) dJ23_split_53 rfl ?_
      by_cases hb : x / n % 2 = 0
      · have fin : ∀ (μ3 : zM) (nx3 : Nat → Option Nat), zTn μ3 R o ν ky vl nx3 pa le ri (va_up pv x lo.getLast?) rd (· ∈ l) → zCh nx3 rest → zCh nx3 (lo ++ [x]) → zCh nx3 hi → zKp (zNt R o (· ∈ l)) μ μ3 → AW G 5 MJ23_split (zSpl G μ R o tab n j cap ky vl ft l) l.length (4 * l.length) 82 [(1, .ref m), (2, .ref tab), (3, .int (nI j)), (4, .int (nI n)), (6, va_rf ((lo ++ [x]).head?.map ν)), (8, va_rf (hi.head?.map ν)), (9, va_rf (hi.getLast?.map ν)), (10, .int (nI lo.length)), (11, .int (nI hi.length)), (12, .ref (ν x)), (13, va_rf (rest.head?.map ν))] [] μ3 := by
          intro μ3 nx3 hT3 hr3 hl3 hh3 hk3
          first | refine aw_aload (q := 84) dJ23_split_82 rfl rfl ?_ | refine aw_aloadN (q := 84) dJ23_split_82 rfl rfl ?_ | refine aw_aloadQ (q := 84) dJ23_split_82 rfl rfl ?_
          first | refine aw_astore (q := 86) dJ23_split_84 (by decide) rfl ?_ | refine aw_astoreN (q := 86) dJ23_split_84 (by decide) rfl ?_ | refine aw_astoreQ (q := 86) dJ23_split_84 (by decide) rfl ?_
          try simp (config := {decide := true}) only [zput, zdel_q, zdel_f, zdel_t, zdel_nil, zdel_r, zdel_i, zdel_n]
          refine aw_iinc (q := 89) dJ23_split_86 rfl (by first | exact nI_1 _ | rfl) (by decide) rfl ?_
          try simp (config := {decide := true}) only [zput, zdel_q, zdel_f, zdel_t, zdel_nil, zdel_r, zdel_i, zdel_n]
          refine aw_goto (tgt := 124) dJ23_split_89 (by decide) ?_
          first | refine aw_aload (q := 126) dJ23_split_124 rfl rfl ?_ | refine aw_aloadN (q := 126) dJ23_split_124 rfl rfl ?_ | refine aw_aloadQ (q := 126) dJ23_split_124 rfl rfl ?_
          first | refine aw_astore (q := 128) dJ23_split_126 (by decide) rfl ?_ | refine aw_astoreN (q := 128) dJ23_split_126 (by decide) rfl ?_ | refine aw_astoreQ (q := 128) dJ23_split_126 (by decide) rfl ?_
          refine aw_goto (tgt := 25) dJ23_split_128 (by decide) ?_
          try rw [nI_1]
          refine aw_locals ?_ (ih (lo ++ [x]) hi μ3 nx3 _ hT3 hr3 hl3 hh3 (hvl.snoc hxlo) (hvh.congr (fun y hy => va_up_ne _ _ (fun e => hxhi (e ▸ hy)))) hxr.2 (zNodup_snoc hnl hxlo) hnh ?_ ?_ ?_ ?_ hk3)
          · exact ⟨rfl, rfl, rfl, rfl, rfl, by rw [zLast]; rfl, rfl, rfl, by rw [List.length_append]; rfl, rfl, rfl, trivial⟩
          · intro y hy
            rcases List.mem_append.mp hy with q | q
            · exact ⟨(hlm y q).1, fun e => (hlm y q).2 (List.mem_cons_of_mem _ e)⟩
            · rw [List.mem_singleton.mp q]; exact ⟨hb, hxr.1⟩
          · intro y hy
            exact ⟨(hhm y hy).1, fun e => (hhm y hy).2 (List.mem_cons_of_mem _ e)⟩
          · intro y
            rw [hmem y, List.mem_append, List.mem_cons, List.mem_singleton]
            constructor
            · rintro (q | q | q | q)
              · exact Or.inl (Or.inl q)
              · exact Or.inr (Or.inl q)
              · exact Or.inl (Or.inr q)
              · exact Or.inr (Or.inr q)
            · rintro ((q | q) | q | q)
              · exact Or.inl q
              · exact Or.inr (Or.inr (Or.inl q))
              · exact Or.inr (Or.inl q)
              · exact Or.inr (Or.inr (Or.inr q))
          · rw [List.length_append]; simp only [List.length_cons, List.length_nil]; omega
        refine aw_if_ne (tgt := 92) (q := 57) dJ23_split_54 (by decide) rfl (fun hZ => absurd (((i_bit hn (by omega) (by omega)).mpr hb)) hZ) (fun _ => ?_)
        have hs := hcl.snocN hnl hxlo
        rcases zSnoc lo with rfl | ⟨dm, y, rfl⟩
        · simp only [List.getLast?_nil, List.head?_nil, Option.map_none, zrf_n] at *
          first | refine aw_aload (q := 59) dJ23_split_57 rfl rfl ?_ | refine aw_aloadN (q := 59) dJ23_split_57 rfl rfl ?_ | refine aw_aloadQ (q := 59) dJ23_split_57 rfl rfl ?_
          first | refine aw_aload (q := 61) dJ23_split_59 rfl rfl ?_ | refine aw_aloadN (q := 61) dJ23_split_59 rfl rfl ?_ | refine aw_aloadQ (q := 61) dJ23_split_59 rfl rfl ?_
          refine aw_dup_x1 (q := 62) dJ23_split_61 (by first | rfl | exact zcat_rf _) (by first | rfl | exact zcat_rf _) rfl ?_
          refine aw_putfield (q := 65) dJ23_split_62 gf_J23_19_15 hx1 (by first | assumption | simp) (by first | rfl | exact znar_rf _ _ | exact zB_nar _) (by first | rfl | exact zfit_rf _ _ | exact zB_fit _) (Nat.le_of_ble_eq_true rfl) rfl (fun μ3 hg_μ3 => ?_)
          have hx1 : μ3 _ = some _ := hg_μ3 ▸ updM_eq _ _ _
          simp only [List.set] at hx1 hg_μ3
          obtain ⟨hT3, hk3⟩ := hT2.p_pv (μ' := μ3) hxl none (by rw [va_up_self]; exact hg_μ3)
          refine aw_ifnonnull_n (q := 68) dJ23_split_65 rfl ?_
          first | refine aw_aload (q := 70) dJ23_split_68 rfl rfl ?_ | refine aw_aloadN (q := 70) dJ23_split_68 rfl rfl ?_ | refine aw_aloadQ (q := 70) dJ23_split_68 rfl rfl ?_
          first | refine aw_astore (q := 72) dJ23_split_70 (by decide) rfl ?_ | refine aw_astoreN (q := 72) dJ23_split_70 (by decide) rfl ?_ | refine aw_astoreQ (q := 72) dJ23_split_70 (by decide) rfl ?_
          try simp (config := {decide := true}) only [zput, zdel_q, zdel_f, zdel_t, zdel_nil, zdel_r, zdel_i, zdel_n]
          refine aw_goto (tgt := 82) dJ23_split_72 (by decide) ?_
          exact AW.bud (aw_locals (by exact ⟨rfl, rfl, rfl, rfl, rfl, rfl, rfl, rfl, rfl, rfl, rfl, trivial⟩) (fin μ3 _ hT3 hcr2 hs hch2 ((hkp.tr hk2).tr hk3))) (by omega) (by omega)
        · have hyd : y ∈ dm ++ [y] := List.mem_append_right _ List.mem_cons_self
          have hyl : y ∈ l := (hmem y).mpr (Or.inl hyd)
          have hyx : y ≠ x := fun e => hxlo (e ▸ hyd)
          rw [zLast] at hs fin
          rw [zLast]
          simp only [Option.map_some, zrf_s]
          first | refine aw_aload (q := 59) dJ23_split_57 rfl rfl ?_ | refine aw_aloadN (q := 59) dJ23_split_57 rfl rfl ?_ | refine aw_aloadQ (q := 59) dJ23_split_57 rfl rfl ?_
          first | refine aw_aload (q := 61) dJ23_split_59 rfl rfl ?_ | refine aw_aloadN (q := 61) dJ23_split_59 rfl rfl ?_ | refine aw_aloadQ (q := 61) dJ23_split_59 rfl rfl ?_
          refine aw_dup_x1 (q := 62) dJ23_split_61 (by first | rfl | exact zcat_rf _) (by first | rfl | exact zcat_rf _) rfl ?_
          refine aw_putfield (q := 65) dJ23_split_62 gf_J23_19_15 hx1 (by first | assumption | simp) (by first | rfl | exact znar_rf _ _ | exact zB_nar _) (by first | rfl | exact zfit_rf _ _ | exact zB_fit _) (Nat.le_of_ble_eq_true rfl) rfl (fun μ3 hg_μ3 => ?_)
          have hx1 : μ3 _ = some _ := hg_μ3 ▸ updM_eq _ _ _
          simp only [List.set] at hx1 hg_μ3
          obtain ⟨hT3, hk3⟩ := hT2.p_pv (μ' := μ3) hxl (some y) (by rw [va_up_self]; exact hg_μ3)
          have hy3 := (hT3 y hyl).2
          refine aw_ifnonnull_r (tgt := 75) dJ23_split_65 (by decide) ?_
          first | refine aw_aload (q := 77) dJ23_split_75 rfl rfl ?_ | refine aw_aloadN (q := 77) dJ23_split_75 rfl rfl ?_ | refine aw_aloadQ (q := 77) dJ23_split_75 rfl rfl ?_
          first | refine aw_aload (q := 79) dJ23_split_77 rfl rfl ?_ | refine aw_aloadN (q := 79) dJ23_split_77 rfl rfl ?_ | refine aw_aloadQ (q := 79) dJ23_split_77 rfl rfl ?_
          first | refine aw_putfield (q := 82) dJ23_split_79 gf_J23_22_13 hy3 (by first | assumption | simp) (by first | rfl | exact znar_rf _ _ | exact zB_nar _) (by first | rfl | exact zfit_rf _ _ | exact zB_fit _) (Nat.le_of_ble_eq_true rfl) rfl (fun μ4 hg_μ4 => ?_) | refine aw_putfield (q := 82) dJ23_split_79 gf_J23_22_15 hy3 (by first | assumption | simp) (by first | rfl | exact znar_rf _ _ | exact zB_nar _) (by first | rfl | exact zfit_rf _ _ | exact zB_fit _) (Nat.le_of_ble_eq_true rfl) rfl (fun μ4 hg_μ4 => ?_)
          have hy3 : μ4 _ = some _ := hg_μ4 ▸ updM_eq _ _ _
          simp only [List.set] at hy3 hg_μ4
          obtain ⟨hT4, hk4⟩ := hT3.p_nx (μ' := μ4) hyl (some x) hg_μ4
          have ehd : ((dm ++ [y]) ++ [x]).head? = (dm ++ [y]).head? := by cases dm <;> rfl
          exact AW.bud (aw_locals (by exact ⟨rfl, rfl, rfl, rfl, by (rw [ehd]; rfl), rfl, rfl, rfl, rfl, rfl, rfl, trivial⟩) (fin μ4 _ hT4 (hcr2.congr (fun z hz => va_up_ne _ _ (fun e => (hlm y hyd).2 (e ▸ List.mem_cons_of_mem _ hz)))) hs (hch2.congr (fun z hz => va_up_ne _ _ (fun e => (hhm z hz).1 (e ▸ (hlm y hyd).1)))) (((hkp.tr hk2).tr hk3).tr hk4))) (by omega) (by omega)
      · have fin : ∀ (μ3 : zM) (nx3 : Nat → Option Nat), zTn μ3 R o ν ky vl nx3 pa le ri (va_up pv x hi.getLast?) rd (· ∈ l) → zCh nx3 rest → zCh nx3 lo → zCh nx3 (hi ++ [x]) → zKp (zNt R o (· ∈ l)) μ μ3 → AW G 5 MJ23_split (zSpl G μ R o tab n j cap ky vl ft l) l.length (4 * l.length) 117 [(1, .ref m), (2, .ref tab), (3, .int (nI j)), (4, .int (nI n)), (6, va_rf (lo.head?.map ν)), (7, va_rf (lo.getLast?.map ν)), (8, va_rf ((hi ++ [x]).head?.map ν)), (10, .int (nI lo.length)), (11, .int (nI hi.length)), (12, .ref (ν x)), (13, va_rf (rest.head?.map ν))] [] μ3 := by
          intro μ3 nx3 hT3 hr3 hl3 hh3 hk3
          first | refine aw_aload (q := 119) dJ23_split_117 rfl rfl ?_ | refine aw_aloadN (q := 119) dJ23_split_117 rfl rfl ?_ | refine aw_aloadQ (q := 119) dJ23_split_117 rfl rfl ?_
          first | refine aw_astore (q := 121) dJ23_split_119 (by decide) rfl ?_ | refine aw_astoreN (q := 121) dJ23_split_119 (by decide) rfl ?_ | refine aw_astoreQ (q := 121) dJ23_split_119 (by decide) rfl ?_
          try simp (config := {decide := true}) only [zput, zdel_q, zdel_f, zdel_t, zdel_nil, zdel_r, zdel_i, zdel_n]
          refine aw_iinc (q := 124) dJ23_split_121 rfl (by first | exact nI_1 _ | rfl) (by decide) rfl ?_
          first | refine aw_aload (q := 126) dJ23_split_124 rfl rfl ?_ | refine aw_aloadN (q := 126) dJ23_split_124 rfl rfl ?_ | refine aw_aloadQ (q := 126) dJ23_split_124 rfl rfl ?_
          first | refine aw_astore (q := 128) dJ23_split_126 (by decide) rfl ?_ | refine aw_astoreN (q := 128) dJ23_split_126 (by decide) rfl ?_ | refine aw_astoreQ (q := 128) dJ23_split_126 (by decide) rfl ?_
          refine aw_goto (tgt := 25) dJ23_split_128 (by decide) ?_
          try rw [nI_1]
          refine aw_locals ?_ (ih lo (hi ++ [x]) μ3 nx3 _ hT3 hr3 hl3 hh3 (hvl.congr (fun y hy => va_up_ne _ _ (fun e => hxlo (e ▸ hy)))) (hvh.snoc hxhi) hxr.2 hnl (zNodup_snoc hnh hxhi) ?_ ?_ ?_ ?_ hk3)
          · exact ⟨rfl, rfl, rfl, rfl, rfl, rfl, rfl, by rw [zLast]; rfl, rfl, by rw [List.length_append]; rfl, rfl, trivial⟩
          · intro y hy
            exact ⟨(hlm y hy).1, fun e => (hlm y hy).2 (List.mem_cons_of_mem _ e)⟩
          · intro y hy
            rcases List.mem_append.mp hy with q | q
            · exact ⟨(hhm y q).1, fun e => (hhm y q).2 (List.mem_cons_of_mem _ e)⟩
            · rw [List.mem_singleton.mp q]; exact ⟨hb, hxr.1⟩
          · intro y
            rw [hmem y, List.mem_append, List.mem_cons, List.mem_singleton]
            constructor
            · rintro (q | q | q | q)
              · exact Or.inl q
              · exact Or.inr (Or.inl (Or.inl q))
              · exact Or.inr (Or.inl (Or.inr q))
              · exact Or.inr (Or.inr q)
            · rintro (q | (q | q) | q)
              · exact Or.inl q
              · exact Or.inr (Or.inl q)
              · exact Or.inr (Or.inr (Or.inl q))
              · exact Or.inr (Or.inr (Or.inr q))
          · rw [List.length_append]; simp only [List.length_cons, List.length_nil]; omega
        refine aw_if_ne (tgt := 92) (q := 57) dJ23_split_54 (by decide) rfl (fun _ => ?_) (fun hZ => absurd hZ ((fun q => hb ((i_bit hn (by omega) (by omega)).mp q))))
        have hs := hch.snocN hnh hxhi
        rcases zSnoc hi with rfl | ⟨dm, y, rfl⟩
        · simp only [List.getLast?_nil, List.head?_nil, Option.map_none, zrf_n] at *
          first | refine aw_aload (q := 94) dJ23_split_92 rfl rfl ?_ | refine aw_aloadN (q := 94) dJ23_split_92 rfl rfl ?_ | refine aw_aloadQ (q := 94) dJ23_split_92 rfl rfl ?_
          first | refine aw_aload (q := 96) dJ23_split_94 rfl rfl ?_ | refine aw_aloadN (q := 96) dJ23_split_94 rfl rfl ?_ | refine aw_aloadQ (q := 96) dJ23_split_94 rfl rfl ?_
          refine aw_dup_x1 (q := 97) dJ23_split_96 (by first | rfl | exact zcat_rf _) (by first | rfl | exact zcat_rf _) rfl ?_
          refine aw_putfield (q := 100) dJ23_split_97 gf_J23_19_15 hx1 (by first | assumption | simp) (by first | rfl | exact znar_rf _ _ | exact zB_nar _) (by first | rfl | exact zfit_rf _ _ | exact zB_fit _) (Nat.le_of_ble_eq_true rfl) rfl (fun μ3 hg_μ3 => ?_)
          have hx1 : μ3 _ = some _ := hg_μ3 ▸ updM_eq _ _ _
          simp only [List.set] at hx1 hg_μ3
          obtain ⟨hT3, hk3⟩ := hT2.p_pv (μ' := μ3) hxl none (by rw [va_up_self]; exact hg_μ3)
          refine aw_ifnonnull_n (q := 103) dJ23_split_100 rfl ?_
          first | refine aw_aload (q := 105) dJ23_split_103 rfl rfl ?_ | refine aw_aloadN (q := 105) dJ23_split_103 rfl rfl ?_ | refine aw_aloadQ (q := 105) dJ23_split_103 rfl rfl ?_
          first | refine aw_astore (q := 107) dJ23_split_105 (by decide) rfl ?_ | refine aw_astoreN (q := 107) dJ23_split_105 (by decide) rfl ?_ | refine aw_astoreQ (q := 107) dJ23_split_105 (by decide) rfl ?_
          try simp (config := {decide := true}) only [zput, zdel_q, zdel_f, zdel_t, zdel_nil, zdel_r, zdel_i, zdel_n]
          refine aw_goto (tgt := 117) dJ23_split_107 (by decide) ?_
          exact AW.bud (aw_locals (by exact ⟨rfl, rfl, rfl, rfl, rfl, rfl, rfl, rfl, rfl, rfl, rfl, trivial⟩) (fin μ3 _ hT3 hcr2 hcl2 hs ((hkp.tr hk2).tr hk3))) (by omega) (by omega)
        · have hyd : y ∈ dm ++ [y] := List.mem_append_right _ List.mem_cons_self
          have hyl : y ∈ l := (hmem y).mpr (Or.inr (Or.inl hyd))
          have hyx : y ≠ x := fun e => hxhi (e ▸ hyd)
          rw [zLast] at hs fin
          rw [zLast]
          simp only [Option.map_some, zrf_s]
          first | refine aw_aload (q := 94) dJ23_split_92 rfl rfl ?_ | refine aw_aloadN (q := 94) dJ23_split_92 rfl rfl ?_ | refine aw_aloadQ (q := 94) dJ23_split_92 rfl rfl ?_
          first | refine aw_aload (q := 96) dJ23_split_94 rfl rfl ?_ | refine aw_aloadN (q := 96) dJ23_split_94 rfl rfl ?_ | refine aw_aloadQ (q := 96) dJ23_split_94 rfl rfl ?_
          refine aw_dup_x1 (q := 97) dJ23_split_96 (by first | rfl | exact zcat_rf _) (by first | rfl | exact zcat_rf _) rfl ?_
          refine aw_putfield (q := 100) dJ23_split_97 gf_J23_19_15 hx1 (by first | assumption | simp) (by first | rfl | exact znar_rf _ _ | exact zB_nar _) (by first | rfl | exact zfit_rf _ _ | exact zB_fit _) (Nat.le_of_ble_eq_true rfl) rfl (fun μ3 hg_μ3 => ?_)
          have hx1 : μ3 _ = some _ := hg_μ3 ▸ updM_eq _ _ _
          simp only [List.set] at hx1 hg_μ3
          obtain ⟨hT3, hk3⟩ := hT2.p_pv (μ' := μ3) hxl (some y) (by rw [va_up_self]; exact hg_μ3)
          have hy3 := (hT3 y hyl).2
          refine aw_ifnonnull_r (tgt := 110) dJ23_split_100 (by decide) ?_
          first | refine aw_aload (q := 112) dJ23_split_110 rfl rfl ?_ | refine aw_aloadN (q := 112) dJ23_split_110 rfl rfl ?_ | refine aw_aloadQ (q := 112) dJ23_split_110 rfl rfl ?_
          first | refine aw_aload (q := 114) dJ23_split_112 rfl rfl ?_ | refine aw_aloadN (q := 114) dJ23_split_112 rfl rfl ?_ | refine aw_aloadQ (q := 114) dJ23_split_112 rfl rfl ?_
          first | refine aw_putfield (q := 117) dJ23_split_114 gf_J23_22_13 hy3 (by first | assumption | simp) (by first | rfl | exact znar_rf _ _ | exact zB_nar _) (by first | rfl | exact zfit_rf _ _ | exact zB_fit _) (Nat.le_of_ble_eq_true rfl) rfl (fun μ4 hg_μ4 => ?_) | refine aw_putfield (q := 117) dJ23_split_114 gf_J23_22_15 hy3 (by first | assumption | simp) (by first | rfl | exact znar_rf _ _ | exact zB_nar _) (by first | rfl | exact zfit_rf _ _ | exact zB_fit _) (Nat.le_of_ble_eq_true rfl) rfl (fun μ4 hg_μ4 => ?_)
          have hy3 : μ4 _ = some _ := hg_μ4 ▸ updM_eq _ _ _
          simp only [List.set] at hy3 hg_μ4
          obtain ⟨hT4, hk4⟩ := hT3.p_nx (μ' := μ4) hyl (some x) hg_μ4
          have ehd : ((dm ++ [y]) ++ [x]).head? = (dm ++ [y]).head? := by cases dm <;> rfl
          exact AW.bud (aw_locals (by exact ⟨rfl, rfl, rfl, rfl, rfl, rfl, by (rw [ehd]; rfl), rfl, rfl, rfl, rfl, trivial⟩) (fin μ4 _ hT4 (hcr2.congr (fun z hz => va_up_ne _ _ (fun e => (hhm y hyd).2 (e ▸ List.mem_cons_of_mem _ hz)))) (hcl2.congr (fun z hz => va_up_ne _ _ (fun e => (hhm y hyd).1 (e ▸ (hlm z hz).1)))) hs (((hkp.tr hk2).tr hk3).tr hk4))) (by omega) (by omega)
  refine meets_of (by decide +kernel) (Nat.le_of_ble_eq_true rfl) ?_
  first | refine aw_aload_n (i := 0) (q := 1) dJ23_split_0 rfl rfl rfl ?_ | refine aw_aloadN_n (i := 0) (q := 1) dJ23_split_0 rfl rfl rfl ?_ | refine aw_aloadQ_n (i := 0) (q := 1) dJ23_split_0 rfl rfl rfl ?_
  first | refine aw_astore (q := 3) dJ23_split_1 (by decide) rfl ?_ | refine aw_astoreN (q := 3) dJ23_split_1 (by decide) rfl ?_ | refine aw_astoreQ (q := 3) dJ23_split_1 (by decide) rfl ?_
  refine aw_null (q := 4) dJ23_split_3 rfl ?_
  first | refine aw_astore (q := 6) dJ23_split_4 (by decide) rfl ?_ | refine aw_astoreN (q := 6) dJ23_split_4 (by decide) rfl ?_ | refine aw_astoreQ (q := 6) dJ23_split_4 (by decide) rfl ?_
  try simp (config := {decide := true}) only [zput, zdel_q, zdel_f, zdel_t, zdel_nil, zdel_r, zdel_i, zdel_n]
  refine aw_null (q := 7) dJ23_split_6 rfl ?_
  first | refine aw_astore (q := 9) dJ23_split_7 (by decide) rfl ?_ | refine aw_astoreN (q := 9) dJ23_split_7 (by decide) rfl ?_ | refine aw_astoreQ (q := 9) dJ23_split_7 (by decide) rfl ?_
  try simp (config := {decide := true}) only [zput, zdel_q, zdel_f, zdel_t, zdel_nil, zdel_r, zdel_i, zdel_n]
  refine aw_null (q := 10) dJ23_split_9 rfl ?_
  first | refine aw_astore (q := 12) dJ23_split_10 (by decide) rfl ?_ | refine aw_astoreN (q := 12) dJ23_split_10 (by decide) rfl ?_ | refine aw_astoreQ (q := 12) dJ23_split_10 (by decide) rfl ?_
  try simp (config := {decide := true}) only [zput, zdel_q, zdel_f, zdel_t, zdel_nil, zdel_r, zdel_i, zdel_n]
  refine aw_null (q := 13) dJ23_split_12 rfl ?_
  first | refine aw_astore (q := 15) dJ23_split_13 (by decide) rfl ?_ | refine aw_astoreN (q := 15) dJ23_split_13 (by decide) rfl ?_ | refine aw_astoreQ (q := 15) dJ23_split_13 (by decide) rfl ?_
  try simp (config := {decide := true}) only [zput, zdel_q, zdel_f, zdel_t, zdel_nil, zdel_r, zdel_i, zdel_n]
  refine aw_iconst (v := 0) (q := 16) dJ23_split_15 rfl rfl ?_
  refine aw_istore (q := 18) dJ23_split_16 (by decide) rfl ?_
  try simp (config := {decide := true}) only [zput, zdel_q, zdel_f, zdel_t, zdel_nil, zdel_r, zdel_i, zdel_n]
  refine aw_iconst (v := 0) (q := 19) dJ23_split_18 rfl rfl ?_
  refine aw_istore (q := 21) dJ23_split_19 (by decide) rfl ?_
  first | refine aw_aload (q := 23) dJ23_split_21 rfl rfl ?_ | refine aw_aloadN (q := 23) dJ23_split_21 rfl rfl ?_ | refine aw_aloadQ (q := 23) dJ23_split_21 rfl rfl ?_
  first | refine aw_astore (q := 25) dJ23_split_23 (by decide) rfl ?_ | refine aw_astoreN (q := 25) dJ23_split_23 (by decide) rfl ?_ | refine aw_astoreQ (q := 25) dJ23_split_23 (by decide) rfl ?_
  refine aw_locals ?_ (loop l [] [] μ nx pv hT hc trivial trivial trivial trivial hnd List.nodup_nil List.nodup_nil (fun x hx => absurd hx List.not_mem_nil) (fun x hx => absurd hx List.not_mem_nil) (fun x => ⟨fun q => Or.inr (Or.inr q), fun q => q.elim (fun q => absurd q List.not_mem_nil) (fun q => q.elim (fun q => absurd q List.not_mem_nil) id)⟩) (by simp) zKp.rf)
  exact ⟨rfl, rfl, rfl, rfl, rfl, rfl, rfl, rfl, rfl, rfl, by rw [hf]; rfl, trivial⟩
end ZSP
