/-! ROWS of the core judgement (printed by tools/mkrows.py) -/
set_option maxRecDepth 100000
def zget : List (Nat × Value) → Nat → Option Value
  | [], _ => none
  | q :: r, i => match Nat.beq q.1 i with
    | true => some q.2
    | false => zget r i
def zdel (i : Nat) : List (Nat × Value) → List (Nat × Value)
  | [] => []
  | q :: r => match Nat.beq q.1 i with
    | true => zdel i r
    | false => match Nat.beq (q.1 + 1) i with
      | false => q :: zdel i r
      | true => match q.2 with
        | .long _ => zdel i r
        | .double _ => zdel i r
        | _ => q :: zdel i r
def zput (i : Nat) (v : Value) (L : List (Nat × Value)) : List (Nat × Value) := (i, v) :: zdel i L
def zput2 (i : Nat) (v : Value) (L : List (Nat × Value)) : List (Nat × Value) := (i, v) :: zdel (i + 1) (zdel i L)
theorem zget_mem {L : List (Nat × Value)} {i : Nat} {v : Value} (h : zget L i = some v) : (i, v) ∈ L := by
  induction L with
  | nil => cases h
  | cons q r ih =>
    simp only [zget] at h
    split at h
    · rename_i hb
      have := Nat.eq_of_beq_eq_true hb
      cases h
      subst this
      exact List.mem_cons_self
    · exact List.mem_cons_of_mem _ (ih h)
theorem zdel_mem {i : Nat} {L : List (Nat × Value)} {q : Nat × Value} (h : q ∈ zdel i L) : q ∈ L ∧ q.1 ≠ i ∧ (q.1 + 1 = i → q.2.category ≠ 2) := by
  induction L with
  | nil => cases h
  | cons x r ih =>
    have key : ∀ (_ : q ∈ zdel i r), q ∈ x :: r ∧ q.1 ≠ i ∧ (q.1 + 1 = i → q.2.category ≠ 2) := fun g => ⟨List.mem_cons_of_mem _ (ih g).1, (ih g).2⟩
    simp only [zdel] at h
    split at h
    · exact key h
    · rename_i h1
      have h1 : x.1 ≠ i := Nat.ne_of_beq_eq_false h1
      split at h
      · rename_i h2
        rcases List.mem_cons.mp h with rfl | g
        · exact ⟨List.mem_cons_self, h1, fun z => absurd z (Nat.ne_of_beq_eq_false h2)⟩
        · exact key g
      · split at h
        · exact key h
        · exact key h
        · rename_i h3 h4
          rcases List.mem_cons.mp h with rfl | g
          · refine ⟨List.mem_cons_self, h1, fun _ z => ?_⟩
            cases hq : q.2 with
            | long x => exact h3 x hq
            | double x => exact h4 x hq
            | _ => rw [hq] at z; simp [Value.category] at z
          · exact key g
theorem lv_has.mono {ls : Array Slot} {n : Nat} {L L' : List (Nat × Value)} (h : lv_has ls n L) (hs : ∀ q ∈ L', q ∈ L) : lv_has ls n L' := ⟨h.1, h.2.1, fun q hq => h.2.2 q (hs q hq)⟩
theorem zput_sub {i : Nat} {v : Value} {L : List (Nat × Value)} : ∀ q ∈ zput i v L, q ∈ (i, v) :: L.filter (fun q => !(q.1 == i) && !(q.1 + 1 == i && q.2.category == 2)) := by
  intro q hq
  rcases List.mem_cons.mp hq with rfl | g
  · exact List.mem_cons_self
  · obtain ⟨h1, h2, h3⟩ := zdel_mem g
    refine List.mem_cons_of_mem _ (List.mem_filter.mpr ⟨h1, ?_⟩)
    simp only [Bool.and_eq_true, Bool.not_eq_true', beq_eq_false_iff_ne, Bool.and_eq_false_iff]
    refine ⟨h2, ?_⟩
    by_cases h4 : q.1 + 1 = i
    · exact Or.inr (h3 h4)
    · exact Or.inl h4
theorem zput2_sub {i : Nat} {v : Value} {L : List (Nat × Value)} : ∀ q ∈ zput2 i v L, q ∈ (i, v) :: L.filter (fun q => !(q.1 == i) && (!(q.1 == i + 1) && !(q.1 + 1 == i && q.2.category == 2))) := by
  intro q hq
  rcases List.mem_cons.mp hq with rfl | g
  · exact List.mem_cons_self
  · obtain ⟨h1, h2, -⟩ := zdel_mem g
    obtain ⟨g1, g2, g3⟩ := zdel_mem h1
    refine List.mem_cons_of_mem _ (List.mem_filter.mpr ⟨g1, ?_⟩)
    simp only [Bool.and_eq_true, Bool.not_eq_true', beq_eq_false_iff_ne, Bool.and_eq_false_iff]
    refine ⟨g2, h2, ?_⟩
    by_cases h4 : q.1 + 1 = i
    · exact Or.inr (g3 h4)
    · exact Or.inl h4
/-- fewer locals, in another order -/
def zLs (L : List (Nat × Value)) : List (Nat × Value) → Prop
  | [] => True
  | q :: r => zget L q.1 = some q.2 ∧ zLs L r
theorem zLs_mem {L L' : List (Nat × Value)} (h : zLs L L') : ∀ q ∈ L', q ∈ L := by
  induction L' with
  | nil => intro q hq; cases hq
  | cons x r ih =>
    intro q hq
    rcases List.mem_cons.mp hq with rfl | g
    · exact zget_mem h.1
    · exact ih h.2 q g
theorem aw_locals {G : zG} {d : Nat} {Y : zMI} {post : Option Value → zM → Prop} {bc bs pc : Nat} {L L' : List (Nat × Value)} {S : List Value} {μ : zM} (h : zLs L L') (k : AW G d Y post bc bs pc L' S μ) : AW G d Y post bc bs pc L S μ :=
  fun p l e s m args below meth c H locs cells slots MC MS ls X hl hH hS hc hs => k p l e s m args below meth c H locs cells slots MC MS ls X (hl.mono (zLs_mem h)) hH hS hc hs

theorem aw_iconst {G : zG} {d : Nat} {Y : zMI} {post : Option Value → zM → Prop} {bc bs pc : Nat} {L : List (Nat × Value)} {S : List Value} {μ : zM} {n : Int} {v : Int32} {q : Nat} (hdg : decode Y.2.1 pc = .ok (.iconst n, 1)) (hv : Int32.ofInt n = v) (hq : pc + 1 = q) (k : AW G d Y post bc bs q L (.int v :: S) μ) : AW G d Y post bc bs pc L S μ := by
  subst hq
  intro p l e s m args below meth c H locs cells slots MC MS ls X hl hH hS hc hs
  exact lv_iconst X.1 X.2.1 hdg hv (k p l e s m args below meth c H locs cells slots MC MS ls X hl hH hS hc hs)
theorem aw_bipush {G : zG} {d : Nat} {Y : zMI} {post : Option Value → zM → Prop} {bc bs pc : Nat} {L : List (Nat × Value)} {S : List Value} {μ : zM} {n : Int} {v : Int32} {q : Nat} (hdg : decode Y.2.1 pc = .ok (.bipush n, 2)) (hv : (Int8.ofInt n).toInt32 = v) (hq : pc + 2 = q) (k : AW G d Y post bc bs q L (.int v :: S) μ) : AW G d Y post bc bs pc L S μ := by
  subst hq
  intro p l e s m args below meth c H locs cells slots MC MS ls X hl hH hS hc hs
  exact lv_bipush X.1 X.2.1 hdg hv (k p l e s m args below meth c H locs cells slots MC MS ls X hl hH hS hc hs)
theorem aw_sipush {G : zG} {d : Nat} {Y : zMI} {post : Option Value → zM → Prop} {bc bs pc : Nat} {L : List (Nat × Value)} {S : List Value} {μ : zM} {n : Int} {v : Int32} {q : Nat} (hdg : decode Y.2.1 pc = .ok (.sipush n, 3)) (hv : (Int16.ofInt n).toInt32 = v) (hq : pc + 3 = q) (k : AW G d Y post bc bs q L (.int v :: S) μ) : AW G d Y post bc bs pc L S μ := by
  subst hq
  intro p l e s m args below meth c H locs cells slots MC MS ls X hl hH hS hc hs
  exact lv_sipush X.1 X.2.1 hdg hv (k p l e s m args below meth c H locs cells slots MC MS ls X hl hH hS hc hs)
theorem aw_lconst {G : zG} {d : Nat} {Y : zMI} {post : Option Value → zM → Prop} {bc bs pc : Nat} {L : List (Nat × Value)} {S : List Value} {μ : zM} {n : Fin 2} {v : Int64} {q : Nat} (hdg : decode Y.2.1 pc = .ok (.lconst n, 1)) (hv : Int64.ofNat (n : Nat) = v) (hq : pc + 1 = q) (k : AW G d Y post bc bs q L (.long v :: S) μ) : AW G d Y post bc bs pc L S μ := by
  subst hq
  intro p l e s m args below meth c H locs cells slots MC MS ls X hl hH hS hc hs
  exact lv_lconst X.1 X.2.1 hdg hv (k p l e s m args below meth c H locs cells slots MC MS ls X hl hH hS hc hs)
theorem aw_null {G : zG} {d : Nat} {Y : zMI} {post : Option Value → zM → Prop} {bc bs pc : Nat} {L : List (Nat × Value)} {S : List Value} {μ : zM}  {q : Nat} (hdg : decode Y.2.1 pc = .ok (.aconst_null, 1)) (hq : pc + 1 = q) (k : AW G d Y post bc bs q L (.null :: S) μ) : AW G d Y post bc bs pc L S μ := by
  subst hq
  intro p l e s m args below meth c H locs cells slots MC MS ls X hl hH hS hc hs
  exact lv_null X.1 X.2.1 hdg (k p l e s m args below meth c H locs cells slots MC MS ls X hl hH hS hc hs)
theorem aw_iload_n {G : zG} {d : Nat} {Y : zMI} {post : Option Value → zM → Prop} {bc bs pc : Nat} {L : List (Nat × Value)} {S : List Value} {μ : zM} {k0 : Fin 4} {i : Nat} {x : Int32} {q : Nat} (hdg : decode Y.2.1 pc = .ok (.iload_n k0, 1)) (hi : (k0 : Nat) = i) (hg : zget L i = some (.int x)) (hq : pc + 1 = q) (k : AW G d Y post bc bs q L (.int x :: S) μ) : AW G d Y post bc bs pc L S μ := by
  subst hq
  intro p l e s m args below meth c H locs cells slots MC MS ls X hl hH hS hc hs
  exact lv_iload_n X.1 X.2.1 hdg hi (hl.2.2 _ (zget_mem hg)) (k p l e s m args below meth c H locs cells slots MC MS ls X hl hH hS hc hs)
theorem aw_iload {G : zG} {d : Nat} {Y : zMI} {post : Option Value → zM → Prop} {bc bs pc : Nat} {L : List (Nat × Value)} {S : List Value} {μ : zM} {i : Nat} {x : Int32} {q : Nat} (hdg : decode Y.2.1 pc = .ok (.iload i, 2)) (hg : zget L i = some (.int x)) (hq : pc + 2 = q) (k : AW G d Y post bc bs q L (.int x :: S) μ) : AW G d Y post bc bs pc L S μ := by
  subst hq
  intro p l e s m args below meth c H locs cells slots MC MS ls X hl hH hS hc hs
  exact lv_iload X.1 X.2.1 hdg (hl.2.2 _ (zget_mem hg)) (k p l e s m args below meth c H locs cells slots MC MS ls X hl hH hS hc hs)
theorem aw_lload_n {G : zG} {d : Nat} {Y : zMI} {post : Option Value → zM → Prop} {bc bs pc : Nat} {L : List (Nat × Value)} {S : List Value} {μ : zM} {k0 : Fin 4} {i : Nat} {x : Int64} {q : Nat} (hdg : decode Y.2.1 pc = .ok (.lload_n k0, 1)) (hi : (k0 : Nat) = i) (hg : zget L i = some (.long x)) (hq : pc + 1 = q) (k : AW G d Y post bc bs q L (.long x :: S) μ) : AW G d Y post bc bs pc L S μ := by
  subst hq
  intro p l e s m args below meth c H locs cells slots MC MS ls X hl hH hS hc hs
  exact lv_lload_n X.1 X.2.1 hdg hi (hl.2.2 _ (zget_mem hg)) (k p l e s m args below meth c H locs cells slots MC MS ls X hl hH hS hc hs)
theorem aw_lload {G : zG} {d : Nat} {Y : zMI} {post : Option Value → zM → Prop} {bc bs pc : Nat} {L : List (Nat × Value)} {S : List Value} {μ : zM} {i : Nat} {x : Int64} {q : Nat} (hdg : decode Y.2.1 pc = .ok (.lload i, 2)) (hg : zget L i = some (.long x)) (hq : pc + 2 = q) (k : AW G d Y post bc bs q L (.long x :: S) μ) : AW G d Y post bc bs pc L S μ := by
  subst hq
  intro p l e s m args below meth c H locs cells slots MC MS ls X hl hH hS hc hs
  exact lv_lload X.1 X.2.1 hdg (hl.2.2 _ (zget_mem hg)) (k p l e s m args below meth c H locs cells slots MC MS ls X hl hH hS hc hs)
theorem aw_aload_n {G : zG} {d : Nat} {Y : zMI} {post : Option Value → zM → Prop} {bc bs pc : Nat} {L : List (Nat × Value)} {S : List Value} {μ : zM} {k0 : Fin 4} {i : Nat} {x : Nat} {q : Nat} (hdg : decode Y.2.1 pc = .ok (.aload_n k0, 1)) (hi : (k0 : Nat) = i) (hg : zget L i = some (.ref x)) (hq : pc + 1 = q) (k : AW G d Y post bc bs q L (.ref x :: S) μ) : AW G d Y post bc bs pc L S μ := by
  subst hq
  intro p l e s m args below meth c H locs cells slots MC MS ls X hl hH hS hc hs
  exact lv_aload_n X.1 X.2.1 hdg hi (hl.2.2 _ (zget_mem hg)) (k p l e s m args below meth c H locs cells slots MC MS ls X hl hH hS hc hs)
theorem aw_aload {G : zG} {d : Nat} {Y : zMI} {post : Option Value → zM → Prop} {bc bs pc : Nat} {L : List (Nat × Value)} {S : List Value} {μ : zM} {i : Nat} {x : Nat} {q : Nat} (hdg : decode Y.2.1 pc = .ok (.aload i, 2)) (hg : zget L i = some (.ref x)) (hq : pc + 2 = q) (k : AW G d Y post bc bs q L (.ref x :: S) μ) : AW G d Y post bc bs pc L S μ := by
  subst hq
  intro p l e s m args below meth c H locs cells slots MC MS ls X hl hH hS hc hs
  exact lv_aload X.1 X.2.1 hdg (hl.2.2 _ (zget_mem hg)) (k p l e s m args below meth c H locs cells slots MC MS ls X hl hH hS hc hs)
theorem aw_dload_n {G : zG} {d : Nat} {Y : zMI} {post : Option Value → zM → Prop} {bc bs pc : Nat} {L : List (Nat × Value)} {S : List Value} {μ : zM} {k0 : Fin 4} {i : Nat} {x : UInt64} {q : Nat} (hdg : decode Y.2.1 pc = .ok (.dload_n k0, 1)) (hi : (k0 : Nat) = i) (hg : zget L i = some (.double x)) (hq : pc + 1 = q) (k : AW G d Y post bc bs q L (.double x :: S) μ) : AW G d Y post bc bs pc L S μ := by
  subst hq
  intro p l e s m args below meth c H locs cells slots MC MS ls X hl hH hS hc hs
  exact lv_dload_n X.1 X.2.1 hdg hi (hl.2.2 _ (zget_mem hg)) (k p l e s m args below meth c H locs cells slots MC MS ls X hl hH hS hc hs)
theorem aw_dload {G : zG} {d : Nat} {Y : zMI} {post : Option Value → zM → Prop} {bc bs pc : Nat} {L : List (Nat × Value)} {S : List Value} {μ : zM} {i : Nat} {x : UInt64} {q : Nat} (hdg : decode Y.2.1 pc = .ok (.dload i, 2)) (hg : zget L i = some (.double x)) (hq : pc + 2 = q) (k : AW G d Y post bc bs q L (.double x :: S) μ) : AW G d Y post bc bs pc L S μ := by
  subst hq
  intro p l e s m args below meth c H locs cells slots MC MS ls X hl hH hS hc hs
  exact lv_dload X.1 X.2.1 hdg (hl.2.2 _ (zget_mem hg)) (k p l e s m args below meth c H locs cells slots MC MS ls X hl hH hS hc hs)
theorem aw_fload_n {G : zG} {d : Nat} {Y : zMI} {post : Option Value → zM → Prop} {bc bs pc : Nat} {L : List (Nat × Value)} {S : List Value} {μ : zM} {k0 : Fin 4} {i : Nat} {x : UInt32} {q : Nat} (hdg : decode Y.2.1 pc = .ok (.fload_n k0, 1)) (hi : (k0 : Nat) = i) (hg : zget L i = some (.float x)) (hq : pc + 1 = q) (k : AW G d Y post bc bs q L (.float x :: S) μ) : AW G d Y post bc bs pc L S μ := by
  subst hq
  intro p l e s m args below meth c H locs cells slots MC MS ls X hl hH hS hc hs
  exact lv_fload_n X.1 X.2.1 hdg hi (hl.2.2 _ (zget_mem hg)) (k p l e s m args below meth c H locs cells slots MC MS ls X hl hH hS hc hs)
theorem aw_fload {G : zG} {d : Nat} {Y : zMI} {post : Option Value → zM → Prop} {bc bs pc : Nat} {L : List (Nat × Value)} {S : List Value} {μ : zM} {i : Nat} {x : UInt32} {q : Nat} (hdg : decode Y.2.1 pc = .ok (.fload i, 2)) (hg : zget L i = some (.float x)) (hq : pc + 2 = q) (k : AW G d Y post bc bs q L (.float x :: S) μ) : AW G d Y post bc bs pc L S μ := by
  subst hq
  intro p l e s m args below meth c H locs cells slots MC MS ls X hl hH hS hc hs
  exact lv_fload X.1 X.2.1 hdg (hl.2.2 _ (zget_mem hg)) (k p l e s m args below meth c H locs cells slots MC MS ls X hl hH hS hc hs)
theorem aw_aloadN_n {G : zG} {d : Nat} {Y : zMI} {post : Option Value → zM → Prop} {bc bs pc : Nat} {L : List (Nat × Value)} {S : List Value} {μ : zM} {k0 : Fin 4} {i : Nat} {q : Nat} (hdg : decode Y.2.1 pc = .ok (.aload_n k0, 1)) (hi : (k0 : Nat) = i) (hg : zget L i = some (.null)) (hq : pc + 1 = q) (k : AW G d Y post bc bs q L (.null :: S) μ) : AW G d Y post bc bs pc L S μ := by
  subst hq
  intro p l e s m args below meth c H locs cells slots MC MS ls X hl hH hS hc hs
  exact lv_aload_nN X.1 X.2.1 hdg hi (hl.2.2 _ (zget_mem hg)) (k p l e s m args below meth c H locs cells slots MC MS ls X hl hH hS hc hs)
theorem aw_aloadN {G : zG} {d : Nat} {Y : zMI} {post : Option Value → zM → Prop} {bc bs pc : Nat} {L : List (Nat × Value)} {S : List Value} {μ : zM} {i : Nat} {q : Nat} (hdg : decode Y.2.1 pc = .ok (.aload i, 2)) (hg : zget L i = some (.null)) (hq : pc + 2 = q) (k : AW G d Y post bc bs q L (.null :: S) μ) : AW G d Y post bc bs pc L S μ := by
  subst hq
  intro p l e s m args below meth c H locs cells slots MC MS ls X hl hH hS hc hs
  exact lv_aloadN X.1 X.2.1 hdg (hl.2.2 _ (zget_mem hg)) (k p l e s m args below meth c H locs cells slots MC MS ls X hl hH hS hc hs)
theorem aw_aloadQ_n {G : zG} {d : Nat} {Y : zMI} {post : Option Value → zM → Prop} {bc bs pc : Nat} {L : List (Nat × Value)} {S : List Value} {μ : zM} {k0 : Fin 4} {i q : Nat} {r : Option Nat} (hdg : decode Y.2.1 pc = .ok (.aload_n k0, 1)) (hi : (k0 : Nat) = i) (hg : zget L i = some (va_rf r)) (hq : pc + 1 = q) (k : AW G d Y post bc bs q L (va_rf r :: S) μ) : AW G d Y post bc bs pc L S μ := by
  cases r with
  | none => exact aw_aloadN_n hdg hi hg hq k
  | some x => exact aw_aload_n hdg hi hg hq k
theorem aw_aloadQ {G : zG} {d : Nat} {Y : zMI} {post : Option Value → zM → Prop} {bc bs pc : Nat} {L : List (Nat × Value)} {S : List Value} {μ : zM} {i q : Nat} {r : Option Nat} (hdg : decode Y.2.1 pc = .ok (.aload i, 2)) (hg : zget L i = some (va_rf r)) (hq : pc + 2 = q) (k : AW G d Y post bc bs q L (va_rf r :: S) μ) : AW G d Y post bc bs pc L S μ := by
  cases r with
  | none => exact aw_aloadN hdg hg hq k
  | some x => exact aw_aload hdg hg hq k
theorem aw_istore_n {G : zG} {d : Nat} {Y : zMI} {post : Option Value → zM → Prop} {bc bs pc : Nat} {L : List (Nat × Value)} {S : List Value} {μ : zM} {k0 : Fin 4} {i : Nat} {x : Int32} {q : Nat} (hdg : decode Y.2.1 pc = .ok (.istore_n k0, 1)) (hi : (k0 : Nat) = i) (hn : i < Y.2.2.1) (hq : pc + 1 = q) (k : AW G d Y post bc bs q (zput i (.int x) L) S μ) : AW G d Y post bc bs pc L (.int x :: S) μ := by
  subst hq
  intro p l e s m args below meth c H locs cells slots MC MS ls X hl hH hS hc hs
  exact lv_istore_n X.1 X.2.1 hdg hi hl hn rfl (fun _ hl => (k p l e s m args below meth c H locs cells slots MC MS _ X (hl.mono zput_sub) hH hS hc hs))
theorem aw_istore {G : zG} {d : Nat} {Y : zMI} {post : Option Value → zM → Prop} {bc bs pc : Nat} {L : List (Nat × Value)} {S : List Value} {μ : zM} {i : Nat} {x : Int32} {q : Nat} (hdg : decode Y.2.1 pc = .ok (.istore i, 2)) (hn : i < Y.2.2.1) (hq : pc + 2 = q) (k : AW G d Y post bc bs q (zput i (.int x) L) S μ) : AW G d Y post bc bs pc L (.int x :: S) μ := by
  subst hq
  intro p l e s m args below meth c H locs cells slots MC MS ls X hl hH hS hc hs
  exact lv_istore X.1 X.2.1 hdg hl hn rfl (fun _ hl => (k p l e s m args below meth c H locs cells slots MC MS _ X (hl.mono zput_sub) hH hS hc hs))
theorem aw_astore_n {G : zG} {d : Nat} {Y : zMI} {post : Option Value → zM → Prop} {bc bs pc : Nat} {L : List (Nat × Value)} {S : List Value} {μ : zM} {k0 : Fin 4} {i : Nat} {x : Nat} {q : Nat} (hdg : decode Y.2.1 pc = .ok (.astore_n k0, 1)) (hi : (k0 : Nat) = i) (hn : i < Y.2.2.1) (hq : pc + 1 = q) (k : AW G d Y post bc bs q (zput i (.ref x) L) S μ) : AW G d Y post bc bs pc L (.ref x :: S) μ := by
  subst hq
  intro p l e s m args below meth c H locs cells slots MC MS ls X hl hH hS hc hs
  exact lv_astore_n X.1 X.2.1 hdg hi hl hn rfl (fun _ hl => (k p l e s m args below meth c H locs cells slots MC MS _ X (hl.mono zput_sub) hH hS hc hs))
theorem aw_astore {G : zG} {d : Nat} {Y : zMI} {post : Option Value → zM → Prop} {bc bs pc : Nat} {L : List (Nat × Value)} {S : List Value} {μ : zM} {i : Nat} {x : Nat} {q : Nat} (hdg : decode Y.2.1 pc = .ok (.astore i, 2)) (hn : i < Y.2.2.1) (hq : pc + 2 = q) (k : AW G d Y post bc bs q (zput i (.ref x) L) S μ) : AW G d Y post bc bs pc L (.ref x :: S) μ := by
  subst hq
  intro p l e s m args below meth c H locs cells slots MC MS ls X hl hH hS hc hs
  exact lv_astore X.1 X.2.1 hdg hl hn rfl (fun _ hl => (k p l e s m args below meth c H locs cells slots MC MS _ X (hl.mono zput_sub) hH hS hc hs))
theorem aw_fstore_n {G : zG} {d : Nat} {Y : zMI} {post : Option Value → zM → Prop} {bc bs pc : Nat} {L : List (Nat × Value)} {S : List Value} {μ : zM} {k0 : Fin 4} {i : Nat} {x : UInt32} {q : Nat} (hdg : decode Y.2.1 pc = .ok (.fstore_n k0, 1)) (hi : (k0 : Nat) = i) (hn : i < Y.2.2.1) (hq : pc + 1 = q) (k : AW G d Y post bc bs q (zput i (.float x) L) S μ) : AW G d Y post bc bs pc L (.float x :: S) μ := by
  subst hq
  intro p l e s m args below meth c H locs cells slots MC MS ls X hl hH hS hc hs
  exact lv_fstore_n X.1 X.2.1 hdg hi hl hn rfl (fun _ hl => (k p l e s m args below meth c H locs cells slots MC MS _ X (hl.mono zput_sub) hH hS hc hs))
theorem aw_fstore {G : zG} {d : Nat} {Y : zMI} {post : Option Value → zM → Prop} {bc bs pc : Nat} {L : List (Nat × Value)} {S : List Value} {μ : zM} {i : Nat} {x : UInt32} {q : Nat} (hdg : decode Y.2.1 pc = .ok (.fstore i, 2)) (hn : i < Y.2.2.1) (hq : pc + 2 = q) (k : AW G d Y post bc bs q (zput i (.float x) L) S μ) : AW G d Y post bc bs pc L (.float x :: S) μ := by
  subst hq
  intro p l e s m args below meth c H locs cells slots MC MS ls X hl hH hS hc hs
  exact lv_fstore X.1 X.2.1 hdg hl hn rfl (fun _ hl => (k p l e s m args below meth c H locs cells slots MC MS _ X (hl.mono zput_sub) hH hS hc hs))
theorem aw_lstore_n {G : zG} {d : Nat} {Y : zMI} {post : Option Value → zM → Prop} {bc bs pc : Nat} {L : List (Nat × Value)} {S : List Value} {μ : zM} {k0 : Fin 4} {i : Nat} {x : Int64} {q : Nat} (hdg : decode Y.2.1 pc = .ok (.lstore_n k0, 1)) (hi : (k0 : Nat) = i) (hn : i + 1 < Y.2.2.1) (hq : pc + 1 = q) (k : AW G d Y post bc bs q (zput2 i (.long x) L) S μ) : AW G d Y post bc bs pc L (.long x :: S) μ := by
  subst hq
  intro p l e s m args below meth c H locs cells slots MC MS ls X hl hH hS hc hs
  exact lv_lstore_n X.1 X.2.1 hdg hi hl hn rfl (fun _ hl => (k p l e s m args below meth c H locs cells slots MC MS _ X (hl.mono zput2_sub) hH hS hc hs))
theorem aw_lstore {G : zG} {d : Nat} {Y : zMI} {post : Option Value → zM → Prop} {bc bs pc : Nat} {L : List (Nat × Value)} {S : List Value} {μ : zM} {i : Nat} {x : Int64} {q : Nat} (hdg : decode Y.2.1 pc = .ok (.lstore i, 2)) (hn : i + 1 < Y.2.2.1) (hq : pc + 2 = q) (k : AW G d Y post bc bs q (zput2 i (.long x) L) S μ) : AW G d Y post bc bs pc L (.long x :: S) μ := by
  subst hq
  intro p l e s m args below meth c H locs cells slots MC MS ls X hl hH hS hc hs
  exact lv_lstore X.1 X.2.1 hdg hl hn rfl (fun _ hl => (k p l e s m args below meth c H locs cells slots MC MS _ X (hl.mono zput2_sub) hH hS hc hs))
theorem aw_dstore_n {G : zG} {d : Nat} {Y : zMI} {post : Option Value → zM → Prop} {bc bs pc : Nat} {L : List (Nat × Value)} {S : List Value} {μ : zM} {k0 : Fin 4} {i : Nat} {x : UInt64} {q : Nat} (hdg : decode Y.2.1 pc = .ok (.dstore_n k0, 1)) (hi : (k0 : Nat) = i) (hn : i + 1 < Y.2.2.1) (hq : pc + 1 = q) (k : AW G d Y post bc bs q (zput2 i (.double x) L) S μ) : AW G d Y post bc bs pc L (.double x :: S) μ := by
  subst hq
  intro p l e s m args below meth c H locs cells slots MC MS ls X hl hH hS hc hs
  exact lv_dstore_n X.1 X.2.1 hdg hi hl hn rfl (fun _ hl => (k p l e s m args below meth c H locs cells slots MC MS _ X (hl.mono zput2_sub) hH hS hc hs))
theorem aw_dstore {G : zG} {d : Nat} {Y : zMI} {post : Option Value → zM → Prop} {bc bs pc : Nat} {L : List (Nat × Value)} {S : List Value} {μ : zM} {i : Nat} {x : UInt64} {q : Nat} (hdg : decode Y.2.1 pc = .ok (.dstore i, 2)) (hn : i + 1 < Y.2.2.1) (hq : pc + 2 = q) (k : AW G d Y post bc bs q (zput2 i (.double x) L) S μ) : AW G d Y post bc bs pc L (.double x :: S) μ := by
  subst hq
  intro p l e s m args below meth c H locs cells slots MC MS ls X hl hH hS hc hs
  exact lv_dstore X.1 X.2.1 hdg hl hn rfl (fun _ hl => (k p l e s m args below meth c H locs cells slots MC MS _ X (hl.mono zput2_sub) hH hS hc hs))
theorem aw_astoreN_n {G : zG} {d : Nat} {Y : zMI} {post : Option Value → zM → Prop} {bc bs pc : Nat} {L : List (Nat × Value)} {S : List Value} {μ : zM} {k0 : Fin 4} {i : Nat} {q : Nat} (hdg : decode Y.2.1 pc = .ok (.astore_n k0, 1)) (hi : (k0 : Nat) = i) (hn : i < Y.2.2.1) (hq : pc + 1 = q) (k : AW G d Y post bc bs q (zput i .null L) S μ) : AW G d Y post bc bs pc L (.null :: S) μ := by
  subst hq
  intro p l e s m args below meth c H locs cells slots MC MS ls X hl hH hS hc hs
  exact lv_astore_nN X.1 X.2.1 hdg hi hl hn rfl (fun _ hl => (k p l e s m args below meth c H locs cells slots MC MS _ X (hl.mono zput_sub) hH hS hc hs))
theorem aw_astoreN {G : zG} {d : Nat} {Y : zMI} {post : Option Value → zM → Prop} {bc bs pc : Nat} {L : List (Nat × Value)} {S : List Value} {μ : zM} {i : Nat} {q : Nat} (hdg : decode Y.2.1 pc = .ok (.astore i, 2)) (hn : i < Y.2.2.1) (hq : pc + 2 = q) (k : AW G d Y post bc bs q (zput i .null L) S μ) : AW G d Y post bc bs pc L (.null :: S) μ := by
  subst hq
  intro p l e s m args below meth c H locs cells slots MC MS ls X hl hH hS hc hs
  exact lv_astoreN X.1 X.2.1 hdg hl hn rfl (fun _ hl => (k p l e s m args below meth c H locs cells slots MC MS _ X (hl.mono zput_sub) hH hS hc hs))
theorem aw_astoreQ_n {G : zG} {d : Nat} {Y : zMI} {post : Option Value → zM → Prop} {bc bs pc : Nat} {L : List (Nat × Value)} {S : List Value} {μ : zM} {k0 : Fin 4} {i q : Nat} {r : Option Nat} (hdg : decode Y.2.1 pc = .ok (.astore_n k0, 1)) (hi : (k0 : Nat) = i) (hn : i < Y.2.2.1) (hq : pc + 1 = q) (k : AW G d Y post bc bs q (zput i (va_rf r) L) S μ) : AW G d Y post bc bs pc L (va_rf r :: S) μ := by
  cases r with
  | none => exact aw_astoreN_n hdg hi hn hq k
  | some x => exact aw_astore_n hdg hi hn hq k
theorem aw_astoreQ {G : zG} {d : Nat} {Y : zMI} {post : Option Value → zM → Prop} {bc bs pc : Nat} {L : List (Nat × Value)} {S : List Value} {μ : zM} {i q : Nat} {r : Option Nat} (hdg : decode Y.2.1 pc = .ok (.astore i, 2)) (hn : i < Y.2.2.1) (hq : pc + 2 = q) (k : AW G d Y post bc bs q (zput i (va_rf r) L) S μ) : AW G d Y post bc bs pc L (va_rf r :: S) μ := by
  cases r with
  | none => exact aw_astoreN hdg hn hq k
  | some x => exact aw_astore hdg hn hq k
theorem aw_iinc {G : zG} {d : Nat} {Y : zMI} {post : Option Value → zM → Prop} {bc bs pc : Nat} {L : List (Nat × Value)} {S : List Value} {μ : zM} {i : Nat} {n : Int} {x v : Int32} {q : Nat} (hdg : decode Y.2.1 pc = .ok (.iinc i n, 3)) (hg : zget L i = some (.int x)) (hv : x + Int32.ofInt n = v) (hn : i < Y.2.2.1) (hq : pc + 3 = q) (k : AW G d Y post bc bs q (zput i (.int v) L) S μ) : AW G d Y post bc bs pc L S μ := by
  subst hq
  intro p l e s m args below meth c H locs cells slots MC MS ls X hl hH hS hc hs
  obtain ⟨j, hj⟩ := List.getElem?_of_mem (zget_mem hg)
  exact lv_iinc X.1 X.2.1 hdg hl hj hv hn rfl (fun _ hl => (k p l e s m args below meth c H locs cells slots MC MS _ X (hl.mono zput_sub) hH hS hc hs))
theorem aw_iadd {G : zG} {d : Nat} {Y : zMI} {post : Option Value → zM → Prop} {bc bs pc : Nat} {L : List (Nat × Value)} {S : List Value} {μ : zM} {x y : Int32} {q : Nat} (hdg : decode Y.2.1 pc = .ok (.iadd, 1)) (hq : pc + 1 = q) (k : AW G d Y post bc bs q L (.int (x + y) :: S) μ) : AW G d Y post bc bs pc L (.int y :: .int x :: S) μ := by
  subst hq
  intro p l e s m args below meth c H locs cells slots MC MS ls X hl hH hS hc hs
  exact lv_iadd X.1 X.2.1 hdg (k p l e s m args below meth c H locs cells slots MC MS ls X hl hH hS hc hs)
theorem aw_isub {G : zG} {d : Nat} {Y : zMI} {post : Option Value → zM → Prop} {bc bs pc : Nat} {L : List (Nat × Value)} {S : List Value} {μ : zM} {x y : Int32} {q : Nat} (hdg : decode Y.2.1 pc = .ok (.isub, 1)) (hq : pc + 1 = q) (k : AW G d Y post bc bs q L (.int (x - y) :: S) μ) : AW G d Y post bc bs pc L (.int y :: .int x :: S) μ := by
  subst hq
  intro p l e s m args below meth c H locs cells slots MC MS ls X hl hH hS hc hs
  exact lv_isub X.1 X.2.1 hdg (k p l e s m args below meth c H locs cells slots MC MS ls X hl hH hS hc hs)
theorem aw_imul {G : zG} {d : Nat} {Y : zMI} {post : Option Value → zM → Prop} {bc bs pc : Nat} {L : List (Nat × Value)} {S : List Value} {μ : zM} {x y : Int32} {q : Nat} (hdg : decode Y.2.1 pc = .ok (.imul, 1)) (hq : pc + 1 = q) (k : AW G d Y post bc bs q L (.int (x * y) :: S) μ) : AW G d Y post bc bs pc L (.int y :: .int x :: S) μ := by
  subst hq
  intro p l e s m args below meth c H locs cells slots MC MS ls X hl hH hS hc hs
  exact lv_imul X.1 X.2.1 hdg (k p l e s m args below meth c H locs cells slots MC MS ls X hl hH hS hc hs)
theorem aw_iand {G : zG} {d : Nat} {Y : zMI} {post : Option Value → zM → Prop} {bc bs pc : Nat} {L : List (Nat × Value)} {S : List Value} {μ : zM} {x y : Int32} {q : Nat} (hdg : decode Y.2.1 pc = .ok (.iand, 1)) (hq : pc + 1 = q) (k : AW G d Y post bc bs q L (.int (x &&& y) :: S) μ) : AW G d Y post bc bs pc L (.int y :: .int x :: S) μ := by
  subst hq
  intro p l e s m args below meth c H locs cells slots MC MS ls X hl hH hS hc hs
  exact lv_iand X.1 X.2.1 hdg (k p l e s m args below meth c H locs cells slots MC MS ls X hl hH hS hc hs)
theorem aw_ior {G : zG} {d : Nat} {Y : zMI} {post : Option Value → zM → Prop} {bc bs pc : Nat} {L : List (Nat × Value)} {S : List Value} {μ : zM} {x y : Int32} {q : Nat} (hdg : decode Y.2.1 pc = .ok (.ior, 1)) (hq : pc + 1 = q) (k : AW G d Y post bc bs q L (.int (x ||| y) :: S) μ) : AW G d Y post bc bs pc L (.int y :: .int x :: S) μ := by
  subst hq
  intro p l e s m args below meth c H locs cells slots MC MS ls X hl hH hS hc hs
  exact lv_ior X.1 X.2.1 hdg (k p l e s m args below meth c H locs cells slots MC MS ls X hl hH hS hc hs)
theorem aw_ixor {G : zG} {d : Nat} {Y : zMI} {post : Option Value → zM → Prop} {bc bs pc : Nat} {L : List (Nat × Value)} {S : List Value} {μ : zM} {x y : Int32} {q : Nat} (hdg : decode Y.2.1 pc = .ok (.ixor, 1)) (hq : pc + 1 = q) (k : AW G d Y post bc bs q L (.int (x ^^^ y) :: S) μ) : AW G d Y post bc bs pc L (.int y :: .int x :: S) μ := by
  subst hq
  intro p l e s m args below meth c H locs cells slots MC MS ls X hl hH hS hc hs
  exact lv_ixor X.1 X.2.1 hdg (k p l e s m args below meth c H locs cells slots MC MS ls X hl hH hS hc hs)
theorem aw_idiv {G : zG} {d : Nat} {Y : zMI} {post : Option Value → zM → Prop} {bc bs pc : Nat} {L : List (Nat × Value)} {S : List Value} {μ : zM} {x y : Int32} {q : Nat} (hdg : decode Y.2.1 pc = .ok (.idiv, 1)) (hne : ¬ y = 0) (hq : pc + 1 = q) (k : AW G d Y post bc bs q L (.int (x / y) :: S) μ) : AW G d Y post bc bs pc L (.int y :: .int x :: S) μ := by
  subst hq
  intro p l e s m args below meth c H locs cells slots MC MS ls X hl hH hS hc hs
  exact lv_idiv X.1 X.2.1 hdg hne (k p l e s m args below meth c H locs cells slots MC MS ls X hl hH hS hc hs)
theorem aw_irem {G : zG} {d : Nat} {Y : zMI} {post : Option Value → zM → Prop} {bc bs pc : Nat} {L : List (Nat × Value)} {S : List Value} {μ : zM} {x y : Int32} {q : Nat} (hdg : decode Y.2.1 pc = .ok (.irem, 1)) (hne : ¬ y = 0) (hq : pc + 1 = q) (k : AW G d Y post bc bs q L (.int (x - x / y * y) :: S) μ) : AW G d Y post bc bs pc L (.int y :: .int x :: S) μ := by
  subst hq
  intro p l e s m args below meth c H locs cells slots MC MS ls X hl hH hS hc hs
  exact lv_irem X.1 X.2.1 hdg hne (k p l e s m args below meth c H locs cells slots MC MS ls X hl hH hS hc hs)
theorem aw_ineg {G : zG} {d : Nat} {Y : zMI} {post : Option Value → zM → Prop} {bc bs pc : Nat} {L : List (Nat × Value)} {S : List Value} {μ : zM} {x : Int32} {q : Nat} (hdg : decode Y.2.1 pc = .ok (.ineg, 1)) (hq : pc + 1 = q) (k : AW G d Y post bc bs q L (.int (-x) :: S) μ) : AW G d Y post bc bs pc L (.int x :: S) μ := by
  subst hq
  intro p l e s m args below meth c H locs cells slots MC MS ls X hl hH hS hc hs
  exact lv_ineg X.1 X.2.1 hdg (k p l e s m args below meth c H locs cells slots MC MS ls X hl hH hS hc hs)
theorem aw_ishl {G : zG} {d : Nat} {Y : zMI} {post : Option Value → zM → Prop} {bc bs pc : Nat} {L : List (Nat × Value)} {S : List Value} {μ : zM} {x y : Int32} {q : Nat} (hdg : decode Y.2.1 pc = .ok (.ishl, 1)) (hq : pc + 1 = q) (k : AW G d Y post bc bs q L (.int (x <<< (y &&& 31)) :: S) μ) : AW G d Y post bc bs pc L (.int y :: .int x :: S) μ := by
  subst hq
  intro p l e s m args below meth c H locs cells slots MC MS ls X hl hH hS hc hs
  exact lv_ishl X.1 X.2.1 hdg (k p l e s m args below meth c H locs cells slots MC MS ls X hl hH hS hc hs)
theorem aw_ishr {G : zG} {d : Nat} {Y : zMI} {post : Option Value → zM → Prop} {bc bs pc : Nat} {L : List (Nat × Value)} {S : List Value} {μ : zM} {x y : Int32} {q : Nat} (hdg : decode Y.2.1 pc = .ok (.ishr, 1)) (hq : pc + 1 = q) (k : AW G d Y post bc bs q L (.int (x >>> (y &&& 31)) :: S) μ) : AW G d Y post bc bs pc L (.int y :: .int x :: S) μ := by
  subst hq
  intro p l e s m args below meth c H locs cells slots MC MS ls X hl hH hS hc hs
  exact lv_ishr X.1 X.2.1 hdg (k p l e s m args below meth c H locs cells slots MC MS ls X hl hH hS hc hs)
theorem aw_iushr {G : zG} {d : Nat} {Y : zMI} {post : Option Value → zM → Prop} {bc bs pc : Nat} {L : List (Nat × Value)} {S : List Value} {μ : zM} {x y v : Int32} {q : Nat} (hdg : decode Y.2.1 pc = .ok (.iushr, 1)) (hv : (x.toUInt32 >>> (y.toUInt32 &&& Int32.toUInt32 31)).toInt32 = v) (hq : pc + 1 = q) (k : AW G d Y post bc bs q L (.int v :: S) μ) : AW G d Y post bc bs pc L (.int y :: .int x :: S) μ := by
  subst hq
  intro p l e s m args below meth c H locs cells slots MC MS ls X hl hH hS hc hs
  exact lv_iushr X.1 X.2.1 hdg hv (k p l e s m args below meth c H locs cells slots MC MS ls X hl hH hS hc hs)
theorem aw_ladd {G : zG} {d : Nat} {Y : zMI} {post : Option Value → zM → Prop} {bc bs pc : Nat} {L : List (Nat × Value)} {S : List Value} {μ : zM} {x y : Int64} {q : Nat} (hdg : decode Y.2.1 pc = .ok (.ladd, 1)) (hq : pc + 1 = q) (k : AW G d Y post bc bs q L (.long (x + y) :: S) μ) : AW G d Y post bc bs pc L (.long y :: .long x :: S) μ := by
  subst hq
  intro p l e s m args below meth c H locs cells slots MC MS ls X hl hH hS hc hs
  exact lv_ladd X.1 X.2.1 hdg (k p l e s m args below meth c H locs cells slots MC MS ls X hl hH hS hc hs)
theorem aw_lsub {G : zG} {d : Nat} {Y : zMI} {post : Option Value → zM → Prop} {bc bs pc : Nat} {L : List (Nat × Value)} {S : List Value} {μ : zM} {x y : Int64} {q : Nat} (hdg : decode Y.2.1 pc = .ok (.lsub, 1)) (hq : pc + 1 = q) (k : AW G d Y post bc bs q L (.long (x - y) :: S) μ) : AW G d Y post bc bs pc L (.long y :: .long x :: S) μ := by
  subst hq
  intro p l e s m args below meth c H locs cells slots MC MS ls X hl hH hS hc hs
  exact lv_lsub X.1 X.2.1 hdg (k p l e s m args below meth c H locs cells slots MC MS ls X hl hH hS hc hs)
theorem aw_land {G : zG} {d : Nat} {Y : zMI} {post : Option Value → zM → Prop} {bc bs pc : Nat} {L : List (Nat × Value)} {S : List Value} {μ : zM} {x y : Int64} {q : Nat} (hdg : decode Y.2.1 pc = .ok (.land, 1)) (hq : pc + 1 = q) (k : AW G d Y post bc bs q L (.long (x &&& y) :: S) μ) : AW G d Y post bc bs pc L (.long y :: .long x :: S) μ := by
  subst hq
  intro p l e s m args below meth c H locs cells slots MC MS ls X hl hH hS hc hs
  exact lv_land X.1 X.2.1 hdg (k p l e s m args below meth c H locs cells slots MC MS ls X hl hH hS hc hs)
theorem aw_lor {G : zG} {d : Nat} {Y : zMI} {post : Option Value → zM → Prop} {bc bs pc : Nat} {L : List (Nat × Value)} {S : List Value} {μ : zM} {x y : Int64} {q : Nat} (hdg : decode Y.2.1 pc = .ok (.lor, 1)) (hq : pc + 1 = q) (k : AW G d Y post bc bs q L (.long (x ||| y) :: S) μ) : AW G d Y post bc bs pc L (.long y :: .long x :: S) μ := by
  subst hq
  intro p l e s m args below meth c H locs cells slots MC MS ls X hl hH hS hc hs
  exact lv_lor X.1 X.2.1 hdg (k p l e s m args below meth c H locs cells slots MC MS ls X hl hH hS hc hs)
theorem aw_lxor {G : zG} {d : Nat} {Y : zMI} {post : Option Value → zM → Prop} {bc bs pc : Nat} {L : List (Nat × Value)} {S : List Value} {μ : zM} {x y : Int64} {q : Nat} (hdg : decode Y.2.1 pc = .ok (.lxor, 1)) (hq : pc + 1 = q) (k : AW G d Y post bc bs q L (.long (x ^^^ y) :: S) μ) : AW G d Y post bc bs pc L (.long y :: .long x :: S) μ := by
  subst hq
  intro p l e s m args below meth c H locs cells slots MC MS ls X hl hH hS hc hs
  exact lv_lxor X.1 X.2.1 hdg (k p l e s m args below meth c H locs cells slots MC MS ls X hl hH hS hc hs)
theorem aw_lushr {G : zG} {d : Nat} {Y : zMI} {post : Option Value → zM → Prop} {bc bs pc : Nat} {L : List (Nat × Value)} {S : List Value} {μ : zM} {x v : Int64} {y : Int32} {q : Nat} (hdg : decode Y.2.1 pc = .ok (.lushr, 1)) (hv : (x.toUInt64 >>> (y.toInt64.toUInt64 &&& Int64.toUInt64 63)).toInt64 = v) (hq : pc + 1 = q) (k : AW G d Y post bc bs q L (.long v :: S) μ) : AW G d Y post bc bs pc L (.int y :: .long x :: S) μ := by
  subst hq
  intro p l e s m args below meth c H locs cells slots MC MS ls X hl hH hS hc hs
  exact lv_lushr X.1 X.2.1 hdg hv (k p l e s m args below meth c H locs cells slots MC MS ls X hl hH hS hc hs)
theorem aw_lshl {G : zG} {d : Nat} {Y : zMI} {post : Option Value → zM → Prop} {bc bs pc : Nat} {L : List (Nat × Value)} {S : List Value} {μ : zM} {x v : Int64} {y : Int32} {q : Nat} (hdg : decode Y.2.1 pc = .ok (.lshl, 1)) (hv : x <<< (y.toInt64 &&& 63) = v) (hq : pc + 1 = q) (k : AW G d Y post bc bs q L (.long v :: S) μ) : AW G d Y post bc bs pc L (.int y :: .long x :: S) μ := by
  subst hq
  intro p l e s m args below meth c H locs cells slots MC MS ls X hl hH hS hc hs
  exact lv_lshl X.1 X.2.1 hdg hv (k p l e s m args below meth c H locs cells slots MC MS ls X hl hH hS hc hs)
theorem aw_lshr {G : zG} {d : Nat} {Y : zMI} {post : Option Value → zM → Prop} {bc bs pc : Nat} {L : List (Nat × Value)} {S : List Value} {μ : zM} {x v : Int64} {y : Int32} {q : Nat} (hdg : decode Y.2.1 pc = .ok (.lshr, 1)) (hv : x >>> (y.toInt64 &&& 63) = v) (hq : pc + 1 = q) (k : AW G d Y post bc bs q L (.long v :: S) μ) : AW G d Y post bc bs pc L (.int y :: .long x :: S) μ := by
  subst hq
  intro p l e s m args below meth c H locs cells slots MC MS ls X hl hH hS hc hs
  exact lv_lshr X.1 X.2.1 hdg hv (k p l e s m args below meth c H locs cells slots MC MS ls X hl hH hS hc hs)
theorem aw_i2l {G : zG} {d : Nat} {Y : zMI} {post : Option Value → zM → Prop} {bc bs pc : Nat} {L : List (Nat × Value)} {S : List Value} {μ : zM} {x : Int32} {v : Int64} {q : Nat} (hdg : decode Y.2.1 pc = .ok (.i2l, 1)) (hv : x.toInt64 = v) (hq : pc + 1 = q) (k : AW G d Y post bc bs q L (.long v :: S) μ) : AW G d Y post bc bs pc L (.int x :: S) μ := by
  subst hq
  intro p l e s m args below meth c H locs cells slots MC MS ls X hl hH hS hc hs
  exact lv_i2l X.1 X.2.1 hdg hv (k p l e s m args below meth c H locs cells slots MC MS ls X hl hH hS hc hs)
theorem aw_l2i {G : zG} {d : Nat} {Y : zMI} {post : Option Value → zM → Prop} {bc bs pc : Nat} {L : List (Nat × Value)} {S : List Value} {μ : zM} {x : Int64} {v : Int32} {q : Nat} (hdg : decode Y.2.1 pc = .ok (.l2i, 1)) (hv : x.toInt32 = v) (hq : pc + 1 = q) (k : AW G d Y post bc bs q L (.int v :: S) μ) : AW G d Y post bc bs pc L (.long x :: S) μ := by
  subst hq
  intro p l e s m args below meth c H locs cells slots MC MS ls X hl hH hS hc hs
  exact lv_l2i X.1 X.2.1 hdg hv (k p l e s m args below meth c H locs cells slots MC MS ls X hl hH hS hc hs)
theorem aw_i2c {G : zG} {d : Nat} {Y : zMI} {post : Option Value → zM → Prop} {bc bs pc : Nat} {L : List (Nat × Value)} {S : List Value} {μ : zM} {x v : Int32} {q : Nat} (hdg : decode Y.2.1 pc = .ok (.i2c, 1)) (hv : (x.toUInt32 % 65536).toInt32 = v) (hq : pc + 1 = q) (k : AW G d Y post bc bs q L (.int v :: S) μ) : AW G d Y post bc bs pc L (.int x :: S) μ := by
  subst hq
  intro p l e s m args below meth c H locs cells slots MC MS ls X hl hH hS hc hs
  exact lv_i2c X.1 X.2.1 hdg hv (k p l e s m args below meth c H locs cells slots MC MS ls X hl hH hS hc hs)
theorem aw_i2b {G : zG} {d : Nat} {Y : zMI} {post : Option Value → zM → Prop} {bc bs pc : Nat} {L : List (Nat × Value)} {S : List Value} {μ : zM} {x v : Int32} {q : Nat} (hdg : decode Y.2.1 pc = .ok (.i2b, 1)) (hv : x.toInt8.toInt32 = v) (hq : pc + 1 = q) (k : AW G d Y post bc bs q L (.int v :: S) μ) : AW G d Y post bc bs pc L (.int x :: S) μ := by
  subst hq
  intro p l e s m args below meth c H locs cells slots MC MS ls X hl hH hS hc hs
  exact lv_i2b X.1 X.2.1 hdg hv (k p l e s m args below meth c H locs cells slots MC MS ls X hl hH hS hc hs)
theorem aw_dup {G : zG} {d : Nat} {Y : zMI} {post : Option Value → zM → Prop} {bc bs pc : Nat} {L : List (Nat × Value)} {S : List Value} {μ : zM} {v1 : Value} {q : Nat} (hdg : decode Y.2.1 pc = .ok (.dup, 1)) (h1 : v1.category = 1) (hq : pc + 1 = q) (k : AW G d Y post bc bs q L (v1 :: v1 :: S) μ) : AW G d Y post bc bs pc L (v1 :: S) μ := by
  subst hq
  intro p l e s m args below meth c H locs cells slots MC MS ls X hl hH hS hc hs
  exact lv_dup X.1 X.2.1 hdg h1 (k p l e s m args below meth c H locs cells slots MC MS ls X hl hH hS hc hs)
theorem aw_pop {G : zG} {d : Nat} {Y : zMI} {post : Option Value → zM → Prop} {bc bs pc : Nat} {L : List (Nat × Value)} {S : List Value} {μ : zM} {v1 : Value} {q : Nat} (hdg : decode Y.2.1 pc = .ok (.pop, 1)) (h1 : v1.category = 1) (hq : pc + 1 = q) (k : AW G d Y post bc bs q L S μ) : AW G d Y post bc bs pc L (v1 :: S) μ := by
  subst hq
  intro p l e s m args below meth c H locs cells slots MC MS ls X hl hH hS hc hs
  exact lv_pop X.1 X.2.1 hdg h1 (k p l e s m args below meth c H locs cells slots MC MS ls X hl hH hS hc hs)
theorem aw_dup_x1 {G : zG} {d : Nat} {Y : zMI} {post : Option Value → zM → Prop} {bc bs pc : Nat} {L : List (Nat × Value)} {S : List Value} {μ : zM} {v1 v2 : Value} {q : Nat} (hdg : decode Y.2.1 pc = .ok (.dup_x1, 1)) (h1 : v1.category = 1) (h2 : v2.category = 1) (hq : pc + 1 = q) (k : AW G d Y post bc bs q L (v1 :: v2 :: v1 :: S) μ) : AW G d Y post bc bs pc L (v1 :: v2 :: S) μ := by
  subst hq
  intro p l e s m args below meth c H locs cells slots MC MS ls X hl hH hS hc hs
  exact lv_dup_x1 X.1 X.2.1 hdg h1 h2 (k p l e s m args below meth c H locs cells slots MC MS ls X hl hH hS hc hs)
theorem aw_dup_x2 {G : zG} {d : Nat} {Y : zMI} {post : Option Value → zM → Prop} {bc bs pc : Nat} {L : List (Nat × Value)} {S : List Value} {μ : zM} {v1 v2 v3 : Value} {q : Nat} (hdg : decode Y.2.1 pc = .ok (.dup_x2, 1)) (h1 : v1.category = 1) (h2 : v2.category = 1) (h3 : v3.category = 1) (hq : pc + 1 = q) (k : AW G d Y post bc bs q L (v1 :: v2 :: v3 :: v1 :: S) μ) : AW G d Y post bc bs pc L (v1 :: v2 :: v3 :: S) μ := by
  subst hq
  intro p l e s m args below meth c H locs cells slots MC MS ls X hl hH hS hc hs
  exact lv_dup_x2 X.1 X.2.1 hdg h1 h2 h3 (k p l e s m args below meth c H locs cells slots MC MS ls X hl hH hS hc hs)
theorem aw_dup2 {G : zG} {d : Nat} {Y : zMI} {post : Option Value → zM → Prop} {bc bs pc : Nat} {L : List (Nat × Value)} {S : List Value} {μ : zM} {v1 v2 : Value} {q : Nat} (hdg : decode Y.2.1 pc = .ok (.dup2, 1)) (h1 : v1.category = 1) (h2 : v2.category = 1) (hq : pc + 1 = q) (k : AW G d Y post bc bs q L (v1 :: v2 :: v1 :: v2 :: S) μ) : AW G d Y post bc bs pc L (v1 :: v2 :: S) μ := by
  subst hq
  intro p l e s m args below meth c H locs cells slots MC MS ls X hl hH hS hc hs
  exact lv_dup2_11 X.1 X.2.1 hdg h1 h2 (k p l e s m args below meth c H locs cells slots MC MS ls X hl hH hS hc hs)
theorem aw_if_eq {G : zG} {d : Nat} {Y : zMI} {post : Option Value → zM → Prop} {bc bs pc : Nat} {L : List (Nat × Value)} {S : List Value} {μ : zM} {x : Int32} {off : Int} {tgt q : Nat} (hdg : decode Y.2.1 pc = .ok (.ifCond .eq off, 3)) (ht : (pc : Int) + off = (tgt : Int)) (hq : pc + 3 = q) (kt : (x = 0) → AW G d Y post bc bs tgt L S μ) (kf : ¬ (x = 0) → AW G d Y post bc bs q L S μ) : AW G d Y post bc bs pc L (.int x :: S) μ := by
  subst hq
  intro p l e s m args below meth c H locs cells slots MC MS ls X hl hH hS hc hs
  exact lv_if_eq X.1 X.2.1 hdg ht (fun h => kt h p l e s m args below meth c H locs cells slots MC MS ls X hl hH hS hc hs) (fun h => kf h p l e s m args below meth c H locs cells slots MC MS ls X hl hH hS hc hs)
theorem aw_icmp_eq {G : zG} {d : Nat} {Y : zMI} {post : Option Value → zM → Prop} {bc bs pc : Nat} {L : List (Nat × Value)} {S : List Value} {μ : zM} {x y : Int32} {off : Int} {tgt q : Nat} (hdg : decode Y.2.1 pc = .ok (.if_icmp .eq off, 3)) (ht : (pc : Int) + off = (tgt : Int)) (hq : pc + 3 = q) (kt : (x = y) → AW G d Y post bc bs tgt L S μ) (kf : ¬ (x = y) → AW G d Y post bc bs q L S μ) : AW G d Y post bc bs pc L (.int y :: .int x :: S) μ := by
  subst hq
  intro p l e s m args below meth c H locs cells slots MC MS ls X hl hH hS hc hs
  exact lv_icmp_eq X.1 X.2.1 hdg ht (fun h => kt h p l e s m args below meth c H locs cells slots MC MS ls X hl hH hS hc hs) (fun h => kf h p l e s m args below meth c H locs cells slots MC MS ls X hl hH hS hc hs)
theorem aw_if_ne {G : zG} {d : Nat} {Y : zMI} {post : Option Value → zM → Prop} {bc bs pc : Nat} {L : List (Nat × Value)} {S : List Value} {μ : zM} {x : Int32} {off : Int} {tgt q : Nat} (hdg : decode Y.2.1 pc = .ok (.ifCond .ne off, 3)) (ht : (pc : Int) + off = (tgt : Int)) (hq : pc + 3 = q) (kt : ¬ (x = 0) → AW G d Y post bc bs tgt L S μ) (kf : (x = 0) → AW G d Y post bc bs q L S μ) : AW G d Y post bc bs pc L (.int x :: S) μ := by
  subst hq
  intro p l e s m args below meth c H locs cells slots MC MS ls X hl hH hS hc hs
  exact lv_if_ne X.1 X.2.1 hdg ht (fun h => kt h p l e s m args below meth c H locs cells slots MC MS ls X hl hH hS hc hs) (fun h => kf h p l e s m args below meth c H locs cells slots MC MS ls X hl hH hS hc hs)
theorem aw_icmp_ne {G : zG} {d : Nat} {Y : zMI} {post : Option Value → zM → Prop} {bc bs pc : Nat} {L : List (Nat × Value)} {S : List Value} {μ : zM} {x y : Int32} {off : Int} {tgt q : Nat} (hdg : decode Y.2.1 pc = .ok (.if_icmp .ne off, 3)) (ht : (pc : Int) + off = (tgt : Int)) (hq : pc + 3 = q) (kt : ¬ (x = y) → AW G d Y post bc bs tgt L S μ) (kf : (x = y) → AW G d Y post bc bs q L S μ) : AW G d Y post bc bs pc L (.int y :: .int x :: S) μ := by
  subst hq
  intro p l e s m args below meth c H locs cells slots MC MS ls X hl hH hS hc hs
  exact lv_icmp_ne X.1 X.2.1 hdg ht (fun h => kt h p l e s m args below meth c H locs cells slots MC MS ls X hl hH hS hc hs) (fun h => kf h p l e s m args below meth c H locs cells slots MC MS ls X hl hH hS hc hs)
theorem aw_if_lt {G : zG} {d : Nat} {Y : zMI} {post : Option Value → zM → Prop} {bc bs pc : Nat} {L : List (Nat × Value)} {S : List Value} {μ : zM} {x : Int32} {off : Int} {tgt q : Nat} (hdg : decode Y.2.1 pc = .ok (.ifCond .lt off, 3)) (ht : (pc : Int) + off = (tgt : Int)) (hq : pc + 3 = q) (kt : (x < 0) → AW G d Y post bc bs tgt L S μ) (kf : ¬ (x < 0) → AW G d Y post bc bs q L S μ) : AW G d Y post bc bs pc L (.int x :: S) μ := by
  subst hq
  intro p l e s m args below meth c H locs cells slots MC MS ls X hl hH hS hc hs
  exact lv_if_lt X.1 X.2.1 hdg ht (fun h => kt h p l e s m args below meth c H locs cells slots MC MS ls X hl hH hS hc hs) (fun h => kf h p l e s m args below meth c H locs cells slots MC MS ls X hl hH hS hc hs)
theorem aw_icmp_lt {G : zG} {d : Nat} {Y : zMI} {post : Option Value → zM → Prop} {bc bs pc : Nat} {L : List (Nat × Value)} {S : List Value} {μ : zM} {x y : Int32} {off : Int} {tgt q : Nat} (hdg : decode Y.2.1 pc = .ok (.if_icmp .lt off, 3)) (ht : (pc : Int) + off = (tgt : Int)) (hq : pc + 3 = q) (kt : (x < y) → AW G d Y post bc bs tgt L S μ) (kf : ¬ (x < y) → AW G d Y post bc bs q L S μ) : AW G d Y post bc bs pc L (.int y :: .int x :: S) μ := by
  subst hq
  intro p l e s m args below meth c H locs cells slots MC MS ls X hl hH hS hc hs
  exact lv_icmp_lt X.1 X.2.1 hdg ht (fun h => kt h p l e s m args below meth c H locs cells slots MC MS ls X hl hH hS hc hs) (fun h => kf h p l e s m args below meth c H locs cells slots MC MS ls X hl hH hS hc hs)
theorem aw_if_ge {G : zG} {d : Nat} {Y : zMI} {post : Option Value → zM → Prop} {bc bs pc : Nat} {L : List (Nat × Value)} {S : List Value} {μ : zM} {x : Int32} {off : Int} {tgt q : Nat} (hdg : decode Y.2.1 pc = .ok (.ifCond .ge off, 3)) (ht : (pc : Int) + off = (tgt : Int)) (hq : pc + 3 = q) (kt : (0 ≤ x) → AW G d Y post bc bs tgt L S μ) (kf : ¬ (0 ≤ x) → AW G d Y post bc bs q L S μ) : AW G d Y post bc bs pc L (.int x :: S) μ := by
  subst hq
  intro p l e s m args below meth c H locs cells slots MC MS ls X hl hH hS hc hs
  exact lv_if_ge X.1 X.2.1 hdg ht (fun h => kt h p l e s m args below meth c H locs cells slots MC MS ls X hl hH hS hc hs) (fun h => kf h p l e s m args below meth c H locs cells slots MC MS ls X hl hH hS hc hs)
theorem aw_icmp_ge {G : zG} {d : Nat} {Y : zMI} {post : Option Value → zM → Prop} {bc bs pc : Nat} {L : List (Nat × Value)} {S : List Value} {μ : zM} {x y : Int32} {off : Int} {tgt q : Nat} (hdg : decode Y.2.1 pc = .ok (.if_icmp .ge off, 3)) (ht : (pc : Int) + off = (tgt : Int)) (hq : pc + 3 = q) (kt : (y ≤ x) → AW G d Y post bc bs tgt L S μ) (kf : ¬ (y ≤ x) → AW G d Y post bc bs q L S μ) : AW G d Y post bc bs pc L (.int y :: .int x :: S) μ := by
  subst hq
  intro p l e s m args below meth c H locs cells slots MC MS ls X hl hH hS hc hs
  exact lv_icmp_ge X.1 X.2.1 hdg ht (fun h => kt h p l e s m args below meth c H locs cells slots MC MS ls X hl hH hS hc hs) (fun h => kf h p l e s m args below meth c H locs cells slots MC MS ls X hl hH hS hc hs)
theorem aw_if_gt {G : zG} {d : Nat} {Y : zMI} {post : Option Value → zM → Prop} {bc bs pc : Nat} {L : List (Nat × Value)} {S : List Value} {μ : zM} {x : Int32} {off : Int} {tgt q : Nat} (hdg : decode Y.2.1 pc = .ok (.ifCond .gt off, 3)) (ht : (pc : Int) + off = (tgt : Int)) (hq : pc + 3 = q) (kt : (0 < x) → AW G d Y post bc bs tgt L S μ) (kf : ¬ (0 < x) → AW G d Y post bc bs q L S μ) : AW G d Y post bc bs pc L (.int x :: S) μ := by
  subst hq
  intro p l e s m args below meth c H locs cells slots MC MS ls X hl hH hS hc hs
  exact lv_if_gt X.1 X.2.1 hdg ht (fun h => kt h p l e s m args below meth c H locs cells slots MC MS ls X hl hH hS hc hs) (fun h => kf h p l e s m args below meth c H locs cells slots MC MS ls X hl hH hS hc hs)
theorem aw_icmp_gt {G : zG} {d : Nat} {Y : zMI} {post : Option Value → zM → Prop} {bc bs pc : Nat} {L : List (Nat × Value)} {S : List Value} {μ : zM} {x y : Int32} {off : Int} {tgt q : Nat} (hdg : decode Y.2.1 pc = .ok (.if_icmp .gt off, 3)) (ht : (pc : Int) + off = (tgt : Int)) (hq : pc + 3 = q) (kt : (y < x) → AW G d Y post bc bs tgt L S μ) (kf : ¬ (y < x) → AW G d Y post bc bs q L S μ) : AW G d Y post bc bs pc L (.int y :: .int x :: S) μ := by
  subst hq
  intro p l e s m args below meth c H locs cells slots MC MS ls X hl hH hS hc hs
  exact lv_icmp_gt X.1 X.2.1 hdg ht (fun h => kt h p l e s m args below meth c H locs cells slots MC MS ls X hl hH hS hc hs) (fun h => kf h p l e s m args below meth c H locs cells slots MC MS ls X hl hH hS hc hs)
theorem aw_if_le {G : zG} {d : Nat} {Y : zMI} {post : Option Value → zM → Prop} {bc bs pc : Nat} {L : List (Nat × Value)} {S : List Value} {μ : zM} {x : Int32} {off : Int} {tgt q : Nat} (hdg : decode Y.2.1 pc = .ok (.ifCond .le off, 3)) (ht : (pc : Int) + off = (tgt : Int)) (hq : pc + 3 = q) (kt : (x ≤ 0) → AW G d Y post bc bs tgt L S μ) (kf : ¬ (x ≤ 0) → AW G d Y post bc bs q L S μ) : AW G d Y post bc bs pc L (.int x :: S) μ := by
  subst hq
  intro p l e s m args below meth c H locs cells slots MC MS ls X hl hH hS hc hs
  exact lv_if_le X.1 X.2.1 hdg ht (fun h => kt h p l e s m args below meth c H locs cells slots MC MS ls X hl hH hS hc hs) (fun h => kf h p l e s m args below meth c H locs cells slots MC MS ls X hl hH hS hc hs)
theorem aw_icmp_le {G : zG} {d : Nat} {Y : zMI} {post : Option Value → zM → Prop} {bc bs pc : Nat} {L : List (Nat × Value)} {S : List Value} {μ : zM} {x y : Int32} {off : Int} {tgt q : Nat} (hdg : decode Y.2.1 pc = .ok (.if_icmp .le off, 3)) (ht : (pc : Int) + off = (tgt : Int)) (hq : pc + 3 = q) (kt : (x ≤ y) → AW G d Y post bc bs tgt L S μ) (kf : ¬ (x ≤ y) → AW G d Y post bc bs q L S μ) : AW G d Y post bc bs pc L (.int y :: .int x :: S) μ := by
  subst hq
  intro p l e s m args below meth c H locs cells slots MC MS ls X hl hH hS hc hs
  exact lv_icmp_le X.1 X.2.1 hdg ht (fun h => kt h p l e s m args below meth c H locs cells slots MC MS ls X hl hH hS hc hs) (fun h => kf h p l e s m args below meth c H locs cells slots MC MS ls X hl hH hS hc hs)
theorem aw_acmp_eq {G : zG} {d : Nat} {Y : zMI} {post : Option Value → zM → Prop} {bc bs pc : Nat} {L : List (Nat × Value)} {S : List Value} {μ : zM} {rx ry : Option Nat} {off : Int} {tgt q : Nat} (hdg : decode Y.2.1 pc = .ok (.if_acmp .eq off, 3)) (ht : (pc : Int) + off = (tgt : Int)) (hq : pc + 3 = q) (kt : (rx = ry) → AW G d Y post bc bs tgt L S μ) (kf : ¬ (rx = ry) → AW G d Y post bc bs q L S μ) : AW G d Y post bc bs pc L (va_rf ry :: va_rf rx :: S) μ := by
  subst hq
  intro p l e s m args below meth c H locs cells slots MC MS ls X hl hH hS hc hs
  exact lv_acmp_eq X.1 X.2.1 hdg ht (fun h => kt h p l e s m args below meth c H locs cells slots MC MS ls X hl hH hS hc hs) (fun h => kf h p l e s m args below meth c H locs cells slots MC MS ls X hl hH hS hc hs)
theorem aw_acmp_ne {G : zG} {d : Nat} {Y : zMI} {post : Option Value → zM → Prop} {bc bs pc : Nat} {L : List (Nat × Value)} {S : List Value} {μ : zM} {rx ry : Option Nat} {off : Int} {tgt q : Nat} (hdg : decode Y.2.1 pc = .ok (.if_acmp .ne off, 3)) (ht : (pc : Int) + off = (tgt : Int)) (hq : pc + 3 = q) (kt : ¬ (rx = ry) → AW G d Y post bc bs tgt L S μ) (kf : (rx = ry) → AW G d Y post bc bs q L S μ) : AW G d Y post bc bs pc L (va_rf ry :: va_rf rx :: S) μ := by
  subst hq
  intro p l e s m args below meth c H locs cells slots MC MS ls X hl hH hS hc hs
  exact lv_acmp_ne X.1 X.2.1 hdg ht (fun h => kt h p l e s m args below meth c H locs cells slots MC MS ls X hl hH hS hc hs) (fun h => kf h p l e s m args below meth c H locs cells slots MC MS ls X hl hH hS hc hs)
theorem aw_goto {G : zG} {d : Nat} {Y : zMI} {post : Option Value → zM → Prop} {bc bs pc : Nat} {L : List (Nat × Value)} {S : List Value} {μ : zM} {off : Int} {tgt : Nat} (hdg : decode Y.2.1 pc = .ok (.goto off, 3)) (ht : (pc : Int) + off = (tgt : Int)) (k : AW G d Y post bc bs tgt L S μ) : AW G d Y post bc bs pc L S μ := by
  intro p l e s m args below meth c H locs cells slots MC MS ls X hl hH hS hc hs
  exact lv_goto X.1 X.2.1 hdg ht (k p l e s m args below meth c H locs cells slots MC MS ls X hl hH hS hc hs)
theorem aw_ifnull {G : zG} {d : Nat} {Y : zMI} {post : Option Value → zM → Prop} {bc bs pc : Nat} {L : List (Nat × Value)} {S : List Value} {μ : zM} {r : Option Nat} {off : Int} {tgt q : Nat} (hdg : decode Y.2.1 pc = .ok (.ifnull off, 3)) (ht : (pc : Int) + off = (tgt : Int)) (hq : pc + 3 = q) (kt : r = none → AW G d Y post bc bs tgt L S μ) (kf : ∀ x, r = some x → AW G d Y post bc bs q L S μ) : AW G d Y post bc bs pc L (va_rf r :: S) μ := by
  subst hq
  intro p l e s m args below meth c H locs cells slots MC MS ls X hl hH hS hc hs
  cases r with
  | none => exact lv_ifnullN X.1 X.2.1 hdg ht (kt rfl p l e s m args below meth c H locs cells slots MC MS ls X hl hH hS hc hs)
  | some x => exact lv_ifnull X.1 X.2.1 hdg (kf x rfl p l e s m args below meth c H locs cells slots MC MS ls X hl hH hS hc hs)
theorem aw_ifnonnull {G : zG} {d : Nat} {Y : zMI} {post : Option Value → zM → Prop} {bc bs pc : Nat} {L : List (Nat × Value)} {S : List Value} {μ : zM} {r : Option Nat} {off : Int} {tgt q : Nat} (hdg : decode Y.2.1 pc = .ok (.ifnonnull off, 3)) (ht : (pc : Int) + off = (tgt : Int)) (hq : pc + 3 = q) (kt : ∀ x, r = some x → AW G d Y post bc bs tgt L S μ) (kf : r = none → AW G d Y post bc bs q L S μ) : AW G d Y post bc bs pc L (va_rf r :: S) μ := by
  subst hq
  intro p l e s m args below meth c H locs cells slots MC MS ls X hl hH hS hc hs
  cases r with
  | none => exact lv_ifnonnullN X.1 X.2.1 hdg (kf rfl p l e s m args below meth c H locs cells slots MC MS ls X hl hH hS hc hs)
  | some x => exact lv_ifnonnull X.1 X.2.1 hdg ht (kt x rfl p l e s m args below meth c H locs cells slots MC MS ls X hl hH hS hc hs)
theorem aw_ifnull_n {G : zG} {d : Nat} {Y : zMI} {post : Option Value → zM → Prop} {bc bs pc : Nat} {L : List (Nat × Value)} {S : List Value} {μ : zM} {off : Int} {tgt : Nat} (hdg : decode Y.2.1 pc = .ok (.ifnull off, 3)) (ht : (pc : Int) + off = (tgt : Int)) (kt : AW G d Y post bc bs tgt L S μ) : AW G d Y post bc bs pc L (.null :: S) μ := by
  intro p l e s m args below meth c H locs cells slots MC MS ls X hl hH hS hc hs
  exact lv_ifnullN X.1 X.2.1 hdg ht (kt p l e s m args below meth c H locs cells slots MC MS ls X hl hH hS hc hs)
theorem aw_ifnull_r {G : zG} {d : Nat} {Y : zMI} {post : Option Value → zM → Prop} {bc bs pc : Nat} {L : List (Nat × Value)} {S : List Value} {μ : zM} {x : Nat} {off : Int} {q : Nat} (hdg : decode Y.2.1 pc = .ok (.ifnull off, 3)) (hq : pc + 3 = q) (kf : AW G d Y post bc bs q L S μ) : AW G d Y post bc bs pc L (.ref x :: S) μ := by
  subst hq
  intro p l e s m args below meth c H locs cells slots MC MS ls X hl hH hS hc hs
  exact lv_ifnull X.1 X.2.1 hdg (kf p l e s m args below meth c H locs cells slots MC MS ls X hl hH hS hc hs)
theorem aw_ifnonnull_n {G : zG} {d : Nat} {Y : zMI} {post : Option Value → zM → Prop} {bc bs pc : Nat} {L : List (Nat × Value)} {S : List Value} {μ : zM} {off : Int} {q : Nat} (hdg : decode Y.2.1 pc = .ok (.ifnonnull off, 3)) (hq : pc + 3 = q) (kf : AW G d Y post bc bs q L S μ) : AW G d Y post bc bs pc L (.null :: S) μ := by
  subst hq
  intro p l e s m args below meth c H locs cells slots MC MS ls X hl hH hS hc hs
  exact lv_ifnonnullN X.1 X.2.1 hdg (kf p l e s m args below meth c H locs cells slots MC MS ls X hl hH hS hc hs)
theorem aw_ifnonnull_r {G : zG} {d : Nat} {Y : zMI} {post : Option Value → zM → Prop} {bc bs pc : Nat} {L : List (Nat × Value)} {S : List Value} {μ : zM} {x : Nat} {off : Int} {tgt : Nat} (hdg : decode Y.2.1 pc = .ok (.ifnonnull off, 3)) (ht : (pc : Int) + off = (tgt : Int)) (kt : AW G d Y post bc bs tgt L S μ) : AW G d Y post bc bs pc L (.ref x :: S) μ := by
  intro p l e s m args below meth c H locs cells slots MC MS ls X hl hH hS hc hs
  exact lv_ifnonnull X.1 X.2.1 hdg ht (kt p l e s m args below meth c H locs cells slots MC MS ls X hl hH hS hc hs)
theorem aw_tableOut {G : zG} {d : Nat} {Y : zMI} {post : Option Value → zM → Prop} {bc bs pc : Nat} {L : List (Nat × Value)} {S : List Value} {μ : zM} {dflt lo hi : Int} {offs : Array Int} {len : Nat} {x : Int32} {tgt : Nat} (hdg : decode Y.2.1 pc = .ok (.tableswitch dflt lo hi offs, len)) (h : x.toInt < lo ∨ hi < x.toInt) (ht : (pc : Int) + dflt = (tgt : Int)) (k : AW G d Y post bc bs tgt L S μ) : AW G d Y post bc bs pc L (.int x :: S) μ := by
  intro p l e s m args below meth c H locs cells slots MC MS ls X hl hH hS hc hs
  exact lv_tableOut X.1 X.2.1 hdg h ht (k p l e s m args below meth c H locs cells slots MC MS ls X hl hH hS hc hs)
theorem aw_tableIn {G : zG} {d : Nat} {Y : zMI} {post : Option Value → zM → Prop} {bc bs pc : Nat} {L : List (Nat × Value)} {S : List Value} {μ : zM} {dflt lo hi : Int} {offs : Array Int} {len : Nat} {x : Int32} {off : Int} {tgt : Nat} (hdg : decode Y.2.1 pc = .ok (.tableswitch dflt lo hi offs, len)) (h1 : ¬ x.toInt < lo) (h2 : ¬ hi < x.toInt) (ho : offs[(x.toInt - lo).toNat]? = some off) (ht : (pc : Int) + off = (tgt : Int)) (k : AW G d Y post bc bs tgt L S μ) : AW G d Y post bc bs pc L (.int x :: S) μ := by
  intro p l e s m args below meth c H locs cells slots MC MS ls X hl hH hS hc hs
  exact lv_tableIn X.1 X.2.1 hdg h1 h2 ho ht (k p l e s m args below meth c H locs cells slots MC MS ls X hl hH hS hc hs)
theorem aw_lookup {G : zG} {d : Nat} {Y : zMI} {post : Option Value → zM → Prop} {bc bs pc : Nat} {L : List (Nat × Value)} {S : List Value} {μ : zM} {dflt : Int} {ps : Array (Int × Int)} {len : Nat} {x : Int32} {off : Int} {tgt : Nat} (hdg : decode Y.2.1 pc = .ok (.lookupswitch dflt ps, len)) (hp : (ps.toList.zip (ps.toList.drop 1)).all (fun (a, next) => a.1 < next.1) = true) (ho : Op.lookupswitch.offset ps.toList dflt x.toInt = off) (ht : (pc : Int) + off = (tgt : Int)) (k : AW G d Y post bc bs tgt L S μ) : AW G d Y post bc bs pc L (.int x :: S) μ := by
  intro p l e s m args below meth c H locs cells slots MC MS ls X hl hH hS hc hs
  exact lv_lookup X.1 X.2.1 hdg hp ho ht (k p l e s m args below meth c H locs cells slots MC MS ls X hl hH hS hc hs)
theorem aw_lcmp {G : zG} {d : Nat} {Y : zMI} {post : Option Value → zM → Prop} {bc bs pc : Nat} {L : List (Nat × Value)} {S : List Value} {μ : zM} {x y : Int64} {q : Nat} (hdg : decode Y.2.1 pc = .ok (.lcmp, 1)) (hq : pc + 1 = q) (k : AW G d Y post bc bs q L (.int (lg_cmp x y) :: S) μ) : AW G d Y post bc bs pc L (.long y :: .long x :: S) μ := by
  subst hq
  intro p l e s m args below meth c H locs cells slots MC MS ls X hl hH hS hc hs
  exact W.lcmp X.1 X.2.1 hdg (k p l e s m args below meth c H locs cells slots MC MS ls X hl hH hS hc hs)
theorem aw_ldc {G : zG} {d : Nat} {Y : zMI} {post : Option Value → zM → Prop} {bc bs pc : Nat} {L : List (Nat × Value)} {S : List Value} {μ : zM} {index : Nat} {v : Int32} {q : Nat} (hdg : decode Y.2.1 pc = .ok (.ldc index, 2)) (hw : Jvm.Cond.constant Y.1.cls index v ∈ lw_all) (hq : pc + 2 = q) (k : AW G d Y post bc bs q L (.int v :: S) μ) : AW G d Y post bc bs pc L S μ := by
  subst hq
  intro p l e s m args below meth c H locs cells slots MC MS ls X hl hH hS hc hs
  exact lv_ldc X.1 X.2.1 X.2.2.2.2.2.1 (X.2.2.2.2.2.2.2.1 _ hw) hdg (k p l e s m args below meth c H locs cells slots MC MS ls X hl hH hS hc hs)
theorem aw_ldcw {G : zG} {d : Nat} {Y : zMI} {post : Option Value → zM → Prop} {bc bs pc : Nat} {L : List (Nat × Value)} {S : List Value} {μ : zM} {index : Nat} {v : Int32} {q : Nat} (hdg : decode Y.2.1 pc = .ok (.ldc_w index, 3)) (hw : Jvm.Cond.constant Y.1.cls index v ∈ lw_all) (hq : pc + 3 = q) (k : AW G d Y post bc bs q L (.int v :: S) μ) : AW G d Y post bc bs pc L S μ := by
  subst hq
  intro p l e s m args below meth c H locs cells slots MC MS ls X hl hH hS hc hs
  exact lv_ldcw X.1 X.2.1 X.2.2.2.2.2.1 (X.2.2.2.2.2.2.2.1 _ hw) hdg (k p l e s m args below meth c H locs cells slots MC MS ls X hl hH hS hc hs)
theorem aw_ldc2 {G : zG} {d : Nat} {Y : zMI} {post : Option Value → zM → Prop} {bc bs pc : Nat} {L : List (Nat × Value)} {S : List Value} {μ : zM} {index : Nat} {v : Int64} {q : Nat} (hdg : decode Y.2.1 pc = .ok (.ldc2_w index, 3)) (hw : Jvm.Cond.constantLong Y.1.cls index v ∈ lw_all) (hq : pc + 3 = q) (k : AW G d Y post bc bs q L (.long v :: S) μ) : AW G d Y post bc bs pc L S μ := by
  subst hq
  intro p l e s m args below meth c H locs cells slots MC MS ls X hl hH hS hc hs
  exact lv_ldc2 X.1 X.2.1 X.2.2.2.2.2.1 (X.2.2.2.2.2.2.2.1 _ hw) hdg (k p l e s m args below meth c H locs cells slots MC MS ls X hl hH hS hc hs)
/-- a computed number gets a name, or another form -/
theorem aw_topi {G : zG} {d : Nat} {Y : zMI} {post : Option Value → zM → Prop} {bc bs pc : Nat} {L : List (Nat × Value)} {S : List Value} {μ : zM} {x y : Int32} (h : x = y) (k : AW G d Y post bc bs pc L (.int y :: S) μ) : AW G d Y post bc bs pc L (.int x :: S) μ := h ▸ k
theorem aw_topl {G : zG} {d : Nat} {Y : zMI} {post : Option Value → zM → Prop} {bc bs pc : Nat} {L : List (Nat × Value)} {S : List Value} {μ : zM} {x y : Int64} (h : x = y) (k : AW G d Y post bc bs pc L (.long y :: S) μ) : AW G d Y post bc bs pc L (.long x :: S) μ := h ▸ k
/-- the ends -/
theorem aw_ireturn {G : zG} {d : Nat} {Y : zMI} {post : Option Value → zM → Prop} {bc bs pc : Nat} {L : List (Nat × Value)} {μ : zM} {v : Int32} {ty : FieldType} (hdg : decode Y.2.1 pc = .ok (.ireturn, 1)) (hr : Y.2.2.2 = some ty) (hn : narrow ty (.int v) = .int v) (hp : post (some (.int v)) μ) : AW G d Y post bc bs pc L [.int v] μ := by
  intro p l e s m args below meth c H locs cells slots MC MS ls X hl hH hS hc hs
  refine W.widen (k := MC) (n := MS) (by omega) (by omega) ?_
  exact W.zret X.1 X.2.1 (X.2.2.1.trans hr) hn (fun t ht hW => ⟨⟨_, μ, rfl, hp, by rw [ht]; exact hH⟩, hS.F ht⟩) hS.2.2 hdg X.2.2.2.1
theorem aw_return {G : zG} {d : Nat} {Y : zMI} {post : Option Value → zM → Prop} {bc bs pc : Nat} {L : List (Nat × Value)} {μ : zM} (hdg : decode Y.2.1 pc = .ok (.return_, 1)) (hr : Y.2.2.2 = none) (hp : post none μ) : AW G d Y post bc bs pc L [] μ := by
  intro p l e s m args below meth c H locs cells slots MC MS ls X hl hH hS hc hs
  refine W.widen (k := MC) (n := MS) (by omega) (by omega) ?_
  exact W.vret X.1 X.2.1 (X.2.2.1.trans hr) (fun t ht hW => ⟨⟨_, μ, rfl, hp, by rw [ht]; exact hH⟩, hS.F ht⟩) hS.2.2 hdg X.2.2.2.1
theorem aw_areturn {G : zG} {d : Nat} {Y : zMI} {post : Option Value → zM → Prop} {bc bs pc : Nat} {L : List (Nat × Value)} {μ : zM} {r : Option Nat} {rt : FieldType} (hdg : decode Y.2.1 pc = .ok (.areturn, 1)) (hr : Y.2.2.2 = some rt) (hrt : (∃ n, rt = .object n) ∨ ∃ t, rt = .array t) (hp : post (some (va_rf r)) μ) : AW G d Y post bc bs pc L [va_rf r] μ := by
  intro p l e s m args below meth c H locs cells slots MC MS ls X hl hH hS hc hs
  refine W.widen (k := MC) (n := MS) (by omega) (by omega) ?_
  exact W.aret X.1 X.2.1 (X.2.2.1.trans hr) hrt (by cases r <;> simp [va_rf]) (fun t ht hW => ⟨⟨_, μ, rfl, hp, by rw [ht]; exact hH⟩, hS.F ht⟩) hS.2.2 hdg X.2.2.2.1
theorem aw_lreturn {G : zG} {d : Nat} {Y : zMI} {post : Option Value → zM → Prop} {bc bs pc : Nat} {L : List (Nat × Value)} {μ : zM} {v : Int64} (hdg : decode Y.2.1 pc = .ok (.lreturn, 1)) (hr : Y.2.2.2 = some .long) (hp : post (some (.long v)) μ) : AW G d Y post bc bs pc L [.long v] μ := by
  intro p l e s m args below meth c H locs cells slots MC MS ls X hl hH hS hc hs
  refine W.widen (k := MC) (n := MS) (by omega) (by omega) ?_
  exact W.lret X.1 X.2.1 (X.2.2.1.trans hr) (fun t ht hW => ⟨⟨_, μ, rfl, hp, by rw [ht]; exact hH⟩, hS.F ht⟩) hS.2.2 hdg X.2.2.2.1
/-- Object.<init> -/
def zOI (own : String) (idx : Nat) : Prop := Cond.methodLink own idx Lib.objectInit ∈ lw_all ∧ Cond.instanceMethod Lib.objectInit ∈ lw_all ∧ Cond.code Lib.objectInit ⟨#[0xb1]⟩ 1 none ∈ lw_all
theorem aw_objInit {G : zG} {d : Nat} {Y : zMI} {post : Option Value → zM → Prop} {bc bs pc : Nat} {L : List (Nat × Value)} {S : List Value} {μ : zM} {idx a q : Nat} (hdg : decode Y.2.1 pc = .ok (.invokespecial idx, 3)) (hs0 : zOI Y.1.cls idx) (hd : 1 ≤ d) (hcat : (S.map fun v => v.category).sum ≤ 8) (hq : pc + 3 = q) (k : AW G d Y post bc bs q L S μ) : AW G d Y post bc bs pc L (.ref a :: S) μ := by
  subst hq
  intro p l e s m args below meth c H locs cells slots MC MS ls X hl hH hS hc hs
  refine W.objInit X.1 X.2.1 X.2.2.2.2.2.1 (X.2.2.2.2.2.2.2.1 _ hs0.1) (X.2.2.2.2.2.2.2.1 _ hs0.2.1) (X.2.2.2.2.2.2.2.1 _ hs0.2.2) rfl (hl.1.trans X.2.2.2.2.1.symm) rfl hdg (show 1 ≤ d from hd) ?_ (k p l e s m args below meth c H locs cells slots MC MS ls X hl hH hS hc hs)
  have h := lv_room (m := m) (pc := pc) (ls := ls) (rest := .ref a :: S) hcat
  show _ ≤ 40 * d
  omega
