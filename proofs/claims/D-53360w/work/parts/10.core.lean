/-! CORE: one judgement (AW) for a method's walk over an abstract memory; contracts (Meets) -/
set_option maxRecDepth 100000
abbrev zT : Type := Nat × Nat
abbrev zM : Type := Nat → Option (zT × va_E)
abbrev zG : Type := va_G × (Nat → ClassId) × Nat × (Nat → Nat)
abbrev zMI : Type := MethodName × ByteArray × Nat × Option FieldType
/-- the tag of constants that stood before the law began -/
abbrev zC : zT := (0, 1)
def zCl : List vw_C := [(RX0, TX0, 4), (RX1, TX1, 11), (RX2, TX2, 17), (RX3, TX3, 3), (RX4, TX4, 3), (RX5, TX5, 7), (RX6, TX6, 8), (RX7, TX7, 6), (RX8, TX8, 2), (RX9, TX9, 4), (RX10, TX10, 2), (RJ11, TJ11, 4), (RJ17, TJ17, 1), (RJ18, TJ18, 4), (RJ2, TJ2, 3), (RJ23, TJ23, 11), (RJ25, TJ25, 1), (RJ27, TJ27, 5), (RJ28, TJ28, 1), (RJ4, TJ4, 8), (RJ6, TJ6, 4)]
def zTys (G : zG) : List (ClassId × FieldType) := [(G.2.1 0, .int), (G.2.1 1, .byte), (G.2.1 2, .boolean), (G.2.1 3, .object "java/lang/Object"), (G.2.1 4, .object "DomeNights$Programme"), (G.2.1 5, .object "java/util/HashMap$Node")]
def zA (G : zG) : Nat → Prop := fun q => G.2.2.1 ≤ q
/-- the words that ride along in every state -/
def zKeepW : Cond → Bool
  | .fieldLinkNest .. => true
  | .declares _ => true
  | .interfaceMethod r o _ _ => (r == o) && (r != "java/lang/invoke/MethodHandle" && r != "java/lang/invoke/VarHandle")
  | .publicMethod _ => true
  | .privateMethod _ => true
  | .unhidden .. => true
  | .castable .. => true
  | .arrayOver (.object _) => true
  | w => goodWord w
def zTbl : List Cond := lw_tbl.filter zKeepW
theorem zTbl_of {w : Cond} (h : w ∈ lw_tbl) (g : zKeepW w = true) : w ∈ zTbl := List.mem_filter.mpr ⟨h, g⟩
theorem zTW_warm {s U : State} (hW : s.WarmedH U.vm) {w : Cond} (hk : zKeepW w = true) (h : w.before #[] s = true) : w.before #[] U = true := by
  have tr : ∀ {c : Cond}, c.onTables = true → c.before #[] (s.setVm U.vm) = true → c.before #[] U = true := fun hc h => va_tabs hc (rfl : (s.setVm U.vm).vm = U.vm) h
  have gd : goodWord w = true → w.before #[] U = true := fun g => word_at hW (good_of_word g) h
  cases w with
  | fieldLinkNest a i b n d hh => exact va_Nw.warmF hW h
  | declares x => exact va_Nw.warmD hW h
  | publicMethod y => exact tr rfl (by rw [Cond.publicMethod_setVm hW.alike]; exact h)
  | privateMethod y => exact tr rfl (by rw [Cond.privateMethod_setVm hW.alike]; exact h)
  | unhidden a n d => exact tr rfl (by rw [Cond.unhidden_setVm hW.alike]; exact h)
  | castable a b => exact va_Nw.warmC hW h
  | interfaceMethod r o n d =>
    simp only [zKeepW, Bool.and_eq_true, beq_iff_eq, bne_iff_ne] at hk
    obtain ⟨rfl, h1, h2⟩ := hk
    obtain ⟨cL, kL, r1, hcL, hkL, hiL, hfoundL, hn1⟩ := Cond.interfaceMethod_spec h
    exact tr rfl (by rw [Cond.interfaceMethod_setVm hW.alike (r := r1) hn1 ⟨h1, h2⟩]; exact h)
  | arrayOver ty =>
    cases ty with
    | object C => exact va_AO.use (va_AO.moved hW.alike (va_AO.of (A := #[]) h))
    | _ => exact gd hk
  | _ => exact gd hk
/-- the constants: the cache's boxes, and the empty Optional -/
def zConst (G : zG) (a : Nat) (e : va_E) : Prop := (∃ k : Nat, k < 256 ∧ a = G.2.2.2 (100 + k) ∧ e = .inr (12, [.int (vb_c k)])) ∨ (a = G.2.2.2 1 ∧ e = .inr (18, [.null]))
def zGreat : Nat → Value := fun k => .int (match k with | 0 => 14 | 1 => 30 | 2 => 100 | 3 => 100 | 4 => 100 | _ => 1)
def zStL (G : zG) : List (String × String × String × Value) := [
  ("java/lang/Integer$IntegerCache", "high", "I", .int 127), ("java/lang/Integer$IntegerCache", "cache", "[Ljava/lang/Integer;", .ref (G.2.2.2 3)),
  ("java/lang/String", "COMPACT_STRINGS", "Z", .int 1), ("java/util/HashMap$TreeNode", "$assertionsDisabled", "Z", .int 1), ("java/lang/StrictMath", "$assertionsDisabled", "Z", .int 1),
  ("java/util/ArrayList", "DEFAULTCAPACITY_EMPTY_ELEMENTDATA", "[Ljava/lang/Object;", .ref (G.2.2.2 0)), ("java/util/Optional", "EMPTY", "Ljava/util/Optional;", .ref (G.2.2.2 1)), ("DomeNights", "GREATEST", "[I", .ref (G.2.2.2 2)), ("jdk/internal/util/Preconditions", "SIOOBE_FORMATTER", "Ljava/util/function/BiFunction;", .ref (G.2.2.2 5))]
def zNcL : List (String × String) := [("java/util/HashMap$Node", "java/util/HashMap$TreeNode")]
/-- what stands at the start and is never written, in state U with heap H -/
def zSt (G : zG) (U : State) (H : Heap) : Prop :=
  (∀ z ∈ zStL G, va_Z z.1 z.2.1 z.2.2.1 z.2.2.2 (zA G) U H) ∧ va_T .int (G.2.2.2 2) 6 zGreat (zA G) U H ∧ va_T (.object "java/lang/Integer") (G.2.2.2 3) 256 (fun k => .ref (G.2.2.2 (100 + k))) (zA G) U H ∧
  va_T (.object "java/lang/Object") (G.2.2.2 0) 0 (fun _ => .null) (zA G) U H ∧ va_Mi "[Ljava/lang/Object;" (G.2.2.2 4) U ∧ (∀ q ∈ zNcL, va_Nc q.1 q.2 U) ∧
  (∀ (a ci : Nat) (fs : List Value), zConst G a (.inr (ci, fs)) → a < G.2.2.1 ∧ ∃ (r : vw_C) (cell : Cell), zCl[ci]? = some r ∧ H[a]? = some cell ∧ cell.cls = G.1.1 ci ∧ cell.vm ≠ .unknown ∧ cell.vm.isStatics = false ∧ ∀ k, k < r.2.2 → cell.slots[G.1.2 ci k]? = some (vp_V fs k))
theorem zSt.kept {G : zG} {U : State} {H H1 : Heap} (h : zSt G U H) (hz : G.2.2.1 ≤ H.size) (hq : ∀ a : Nat, a < H.size → ¬ zA G a → H1[a]? = H[a]?) : zSt G U H1 := by
  obtain ⟨h1, h2, h3, h4, h5, h6, h7⟩ := h
  refine ⟨fun z hz => (h1 z hz).kept hq, h2.kept hq, h3.kept hq, h4.kept hq, h5, h6, fun a ci fs hc => ?_⟩
  obtain ⟨g1, r, cell, g2, g3, g4⟩ := h7 a ci fs hc
  refine ⟨g1, r, cell, g2, ?_, g4⟩
  rw [hq a (by omega) (by unfold zA; omega)]
  exact g3
theorem zSt.moved {G : zG} {u U : State} {H : Heap} (hvm : u.vm.Alike U.vm) (h : zSt G u H) : zSt G U H := by
  obtain ⟨h1, h2, h3, h4, h5, h6, h7⟩ := h
  exact ⟨fun z hz => (h1 z hz).moved hvm, h2.moved hvm, h3.moved hvm, h4.moved hvm, h5.moved hvm, fun q hq => (h6 q hq).moved hvm, h7⟩
/-- the tables' part of a state -/
def zWs (G : zG) (U : State) : Prop := va_K G.1 zCl (zTys G) U ∧ (∀ w ∈ zTbl, w.before #[] U = true) ∧ G.2.2.1 ≤ U.heap.size ∧ zSt G U U.heap
theorem zWs.moved {G : zG} {s U : State} (h : zWs G s) (hW : s.WarmedH U.vm) (hz : s.heap.size ≤ U.heap.size) (hq : ∀ a : Nat, a < s.heap.size → ¬ zA G a → U.heap[a]? = s.heap[a]?) : zWs G U := by
  obtain ⟨h1, h2, h3, h4⟩ := h
  exact ⟨h1.moved hW.alike, fun w hw => zTW_warm hW (List.mem_filter.mp hw).2 (h2 w hw), Nat.le_trans h3 hz, (h4.kept h3 hq).moved hW.alike⟩
theorem zWs.calling {G : zG} {U : State} (g : JFrame) (mk : MethodId) (a : Array Value) (h : zWs G U) : zWs G (U.calling g mk a) :=
  h.moved (State.WarmedH.refl U) (Nat.le_refl _) (fun _ _ _ => rfl)
/-- the memory is laid out in the cells ws -/
def zHw (G : zG) (μ : zM) (ws : va_W) : Prop := va_D (zA G) ws ∧ (∀ (a : Nat) (t : zT) (e : va_E), μ a = some (t, e) → (t = zC ∧ zConst G a e) ∨ (t ≠ zC ∧ ∃ k : Nat, ws[k]? = some (a, e))) ∧ (∀ (a : Nat) (e : va_E), zConst G a e → μ a = some (zC, e))
def zHp (G : zG) (μ : zM) (H : Heap) : Prop := ∃ ws : va_W, va_P G.1 zCl ws H ∧ zHw G μ ws
def updM (μ : zM) (a : Nat) (x : zT × va_E) : zM := fun b => if b = a then some x else μ b
theorem updM_eq (μ : zM) (a : Nat) (x : zT × va_E) : updM μ a x a = some x := if_pos rfl
theorem updM_ne {μ : zM} {a b : Nat} {x : zT × va_E} (h : b ≠ a) : updM μ a x b = μ b := if_neg h
/-- all constants lie below the start -/
def zLow (G : zG) : Prop := ∀ (a : Nat) (e : va_E), zConst G a e → a < G.2.2.1
theorem zSt.low {G : zG} {U : State} {H : Heap} (h : zSt G U H) : zLow G := by
  intro a e hc
  have h7 := h.2.2.2.2.2.2
  rcases hc with ⟨k, hk, ha, he⟩ | ⟨ha, he⟩
  · subst he; exact (h7 a _ _ (Or.inl ⟨k, hk, ha, rfl⟩)).1
  · subst he; exact (h7 a _ _ (Or.inr ⟨ha, rfl⟩)).1
theorem zHw.set {G : zG} {μ : zM} {ws : va_W} {a q0 : Nat} {t : zT} {e0 e : va_E} (hl : zLow G) (h : zHw G μ ws) (hq : ws[q0]? = some (a, e0)) (ht : t ≠ zC) : zHw G (updM μ a (t, e)) (ws.set q0 (a, e)) := by
  obtain ⟨hD, h1, h2⟩ := h
  have hlt := (List.getElem?_eq_some_iff.mp hq).1
  have hA : G.2.2.1 ≤ a := hD.2 q0 _ hq
  refine ⟨hD.set hq, fun b t' e' hb => ?_, fun b e' hb => ?_⟩
  · by_cases hba : b = a
    · subst hba
      rw [updM_eq] at hb
      cases hb
      exact Or.inr ⟨ht, q0, List.getElem?_set_self hlt⟩
    · rw [updM_ne hba] at hb
      rcases h1 b t' e' hb with g | ⟨g, k, hk⟩
      · exact Or.inl g
      · refine Or.inr ⟨g, k, ?_⟩
        rw [List.getElem?_set_ne (fun z => hba ?_)]
        · exact hk
        · subst z
          rw [hq] at hk
          cases hk
          rfl
  · have hlb := hl b e' hb
    rw [updM_ne (by omega)]
    exact h2 b e' hb
theorem zHw.push {G : zG} {μ : zM} {ws : va_W} {a : Nat} {t : zT} {e : va_E} (hl : zLow G) (h : zHw G μ ws) (hD : va_D (zA G) (ws ++ [(a, e)])) (ht : t ≠ zC) : zHw G (updM μ a (t, e)) (ws ++ [(a, e)]) := by
  obtain ⟨hD0, h1, h2⟩ := h
  have hA : G.2.2.1 ≤ a := hD.2 ws.length (a, e) (by rw [List.getElem?_append_right (Nat.le_refl _), Nat.sub_self]; rfl)
  refine ⟨hD, fun b t' e' hb => ?_, fun b e' hb => ?_⟩
  · by_cases hba : b = a
    · subst hba
      rw [updM_eq] at hb
      cases hb
      exact Or.inr ⟨ht, ws.length, by rw [List.getElem?_append_right (Nat.le_refl _), Nat.sub_self]; rfl⟩
    · rw [updM_ne hba] at hb
      rcases h1 b t' e' hb with g | ⟨g, k, hk⟩
      · exact Or.inl g
      · exact Or.inr ⟨g, k, by rw [List.getElem?_append_left (List.getElem?_eq_some_iff.mp hk).1]; exact hk⟩
  · have hlb := hl b e' hb
    rw [updM_ne (by omega)]
    exact h2 b e' hb
/-- a new cell's address bears nothing yet -/
theorem zHw.fresh {G : zG} {μ : zM} {ws : va_W} {a : Nat} {e : va_E} (hl : zLow G) (h : zHw G μ ws) (hD : va_D (zA G) (ws ++ [(a, e)])) : μ a = none := by
  have hA : G.2.2.1 ≤ a := hD.2 ws.length (a, e) (by rw [List.getElem?_append_right (Nat.le_refl _), Nat.sub_self]; rfl)
  cases hm : μ a with
  | none => rfl
  | some x =>
    rcases h.2.1 a x.1 x.2 hm with ⟨-, g⟩ | ⟨-, k, hk⟩
    · have := hl _ _ g
      omega
    · have hlt := (List.getElem?_eq_some_iff.mp hk).1
      have := hD.1 k ws.length (a, x.2) (a, e) (by rw [List.getElem?_append_left hlt]; exact hk) (by rw [List.getElem?_append_right (Nat.le_refl _), Nat.sub_self]; rfl) rfl
      omega
/-- a cell's tag is a ghost -/
theorem zHw.retag {G : zG} {μ : zM} {ws : va_W} {a : Nat} {t t' : zT} {e : va_E} (hl : zLow G) (h : zHw G μ ws) (hm : μ a = some (t, e)) (ht : t ≠ zC) (ht' : t' ≠ zC) : zHw G (updM μ a (t', e)) ws := by
  rcases h.2.1 a t e hm with ⟨g, -⟩ | ⟨-, k, hk⟩
  · exact absurd g ht
  · have hlt := (List.getElem?_eq_some_iff.mp hk).1
    have h' := h.set (t := t') (e := e) hl hk ht'
    have e1 : ws.set k (a, e) = ws := by
      apply List.ext_getElem? 
      intro i
      by_cases hi : i = k
      · subst hi; rw [List.getElem?_set_self hlt, hk]
      · rw [List.getElem?_set_ne (Ne.symm hi)]
    rw [e1] at h'
    exact h'
/-- an object's cell, constant or not -/
theorem zHp.obj {G : zG} {μ : zM} {H0 H : Heap} {locs : List Loc} {U : State} (hst : zSt G U H0) (hz : G.2.2.1 ≤ H0.size) (hS : va_S (zA G) H0 H locs) (h : zHp G μ H) {a ci : Nat} {t : zT} {fs : List Value} (hm : μ a = some (t, .inr (ci, fs))) :
    ∃ (r : vw_C) (cell : Cell), zCl[ci]? = some r ∧ H[a]? = some cell ∧ cell.cls = G.1.1 ci ∧ cell.vm ≠ .unknown ∧ cell.vm.isStatics = false ∧ ∀ k, k < r.2.2 → cell.slots[G.1.2 ci k]? = some (vp_V fs k) := by
  obtain ⟨ws, hP, hw⟩ := h
  rcases hw.2.1 a t _ hm with ⟨-, g⟩ | ⟨-, k, hk⟩
  · obtain ⟨h1, r, cell, h2, h3, h4⟩ := hst.2.2.2.2.2.2 a ci fs g
    refine ⟨r, cell, h2, ?_, h4⟩
    rw [hS.2.1 a (by omega) (by unfold zA; omega)]
    exact h3
  · obtain ⟨r, g1, cell, g2, g3, g4, g5⟩ := hP k _ hk
    exact ⟨r, cell, g1, g2, g3, by rw [g4]; exact (fun h => by cases h), by rw [g4]; rfl, g5⟩
theorem zHp.arr {G : zG} {μ : zM} {H : Heap} (h : zHp G μ H) {a : Nat} {t : zT} {x : ClassId × vp_A} (hm : μ a = some (t, .inl x)) : ∃ (ws : va_W) (k : Nat), va_P G.1 zCl ws H ∧ zHw G μ ws ∧ ws[k]? = some (a, .inl x) := by
  obtain ⟨ws, hP, hw⟩ := h
  rcases hw.2.1 a t _ hm with ⟨-, g⟩ | ⟨-, k, hk⟩
  · rcases g with ⟨_, _, _, g⟩ | ⟨_, g⟩ <;> cases g
  · exact ⟨ws, k, hP, hw, hk⟩
theorem zHp.mut {G : zG} {μ : zM} {H : Heap} (h : zHp G μ H) {a : Nat} {t : zT} {e : va_E} (hm : μ a = some (t, e)) (ht : t ≠ zC) : ∃ (ws : va_W) (k : Nat), va_P G.1 zCl ws H ∧ zHw G μ ws ∧ ws[k]? = some (a, e) := by
  obtain ⟨ws, hP, hw⟩ := h
  rcases hw.2.1 a t _ hm with ⟨g, -⟩ | ⟨-, k, hk⟩
  · exact absurd g ht
  · exact ⟨ws, k, hP, hw, hk⟩
/-- how a method ends -/
def zQ (G : zG) (post : Option Value → zM → Prop) : Array Value → State → Outcome → State → Prop := fun _ st o t => (∃ (v : Option Value) (μ' : zM), o = .returned v ∧ post v μ' ∧ zHp G μ' t.heap) ∧ va_F (zA G) st t
def zR (d mc ms : Nat) : Room := { frames := d, cells := mc, slots := ms, locals := 40 * d }
def zPre (G : zG) (as : List Value) (μ : zM) : Array Value → State → Prop := fun a U => a = as.toArray ∧ zWs G U ∧ zHp G μ U.heap
/-- A CONTRACT: method Y, called with as in memory μ, returns; its answer and the new memory satisfy post -/
def Meets (G : zG) (d : Nat) (Y : zMI) (as : List Value) (μ : zM) (post : Option Value → zM → Prop) (mc ms : Nat) : Prop :=
  ∀ l : Launch, Met l Y.1 (ws_ Y.1 Y.2.1 Y.2.2.1 Y.2.2.2) (zR d mc ms) (zPre G as μ) (zQ G post) mc ms (zA G)
theorem zPre.blind {G : zG} {as : List Value} {μ : zM} : FrameBlind (zPre G as μ) := fun a U g mk h => ⟨h.1, h.2.1.calling g mk a, h.2.2⟩
/-- what a method's body stands on -/
def zCtx (G : zG) (Y : zMI) (p : Program) (s : State) (m : MethodId) (args : Array Value) (meth : Method) (c : Code) : Prop :=
  p.tables.exec = Jvm.exec ∧ c.code = Y.2.1 ∧ meth.sig.returnType = Y.2.2.2 ∧ meth.locks = false ∧ c.maxLocals = Y.2.2.1 ∧ s.vm.findClass Y.1.cls = some m.cls ∧ meth.name = Y.1.name ∧ (∀ w ∈ lw_all, w.before args s = true) ∧ zWs G s
/-- THE WALK: method Y at pc, with locals L, operand stack S, memory μ, comes to its end with post, making at most bc cells of bs slots -/
def AW (G : zG) (d : Nat) (Y : zMI) (post : Option Value → zM → Prop) (bc bs : Nat) (pc : Nat) (L : List (Nat × Value)) (S : List Value) (μ : zM) : Prop :=
  ∀ (p : Program) (l : Launch) (e : Env) (s : State) (m : MethodId) (args : Array Value) (below : List Frame) (meth : Method) (c : Code) (H : Heap) (locs : List Loc) (cells slots MC MS : Nat) (ls : Array Slot),
    zCtx G Y p s m args meth c → lv_has ls Y.2.2.1 L → zHp G μ H → va_S (zA G) s.heap H locs → cells + bc ≤ MC → slots + bs ≤ MS →
    W p l e (zR d MC MS) s m args below meth c H locs cells slots (MQ below (zQ G post) args s MC MS (zA G)) (F0 m pc ls S)
theorem zMet_ofW {l : Launch} {y : MethodName} {ws ws' : List Cond} {rm : Room} {Pc : Array Value → State → Prop} {Qc : Array Value → State → Outcome → State → Prop} {mc ms : Nat} {free : Addr → Prop} {cc : ByteArray} {maxL : Nat} {ret : Option FieldType}
    (hy : plainFor y = true) (hw : ws = Cond.code y cc maxL ret :: ws')
    (body : ∀ p e s m args below meth c s₁, BodyLoose p l y (headSpec ws rm) cc maxL ret e s m args below meth c s₁ → c.maxLocals = maxL → Pc args s →
      W p l e (headSpec ws rm).room s m args below meth c s.heap [] 0 0 (MQ below Qc args s mc ms free) (entryFrame m args maxL)) : Met l y ws rm Pc Qc mc ms free := by
  refine MetFree.of_bodySF (code := cc) (maxLocals := maxL) (ret := ret) hy ?_ ?_
  · intro args s m h hn
    obtain ⟨meth, c, h1, h2, h3, h4, h5, h6, -, -⟩ := Cond.code_spec hn (atoms_spec (ws := ws) h _ (by rw [hw]; exact List.mem_cons_self))
    exact ⟨meth, c, h1, h2, h3, h4, h5, h6⟩
  · intro p e s m args below meth c s₁ B hml hP _
    have hh0 : s₁.heap = s.heap := by rw [B.state]; rfl
    obtain ⟨t, a1, o, b1, b2, b3⟩ := body p e s m args below meth c s₁ B hml hP s₁ hh0 (Stand.of_body B)
    exact ⟨t, o, a1, b1, b2, ⟨b3.1, b3.2⟩⟩
theorem meets_of {G : zG} {d : Nat} {Y : zMI} {as : List Value} {μ : zM} {post : Option Value → zM → Prop} {mc ms : Nat} (hpl : plainFor Y.1 = true) (hlen : (lg_sl as).length ≤ Y.2.2.1) (h : AW G d Y post mc ms 0 (lv_args 0 as) [] μ) : Meets G d Y as μ post mc ms := by
  intro l
  refine zMet_ofW (cc := Y.2.1) (maxL := Y.2.2.1) (ret := Y.2.2.2) hpl rfl ?_
  intro p e s m args below meth c s₁ B hml hv
  obtain ⟨rfl, hws, hH⟩ := hv
  have hts := atoms_spec (ws := ws_ Y.1 Y.2.1 Y.2.2.1 Y.2.2.2) B.pre
  have hts : ∀ w ∈ lw_all, w.before _ s = true := fun w h => hts w (List.mem_cons_of_mem _ h)
  have hown : s.vm.findClass Y.1.cls = some m.cls := findClass_of_methodNamed B.named
  have hnm : meth.name = Y.1.name := (name_of_methodNamed B.named B.method).1
  rw [lg_entry_eq]
  have hl := lv_entry as (n := Y.2.2.1) hlen
  exact h p l e s m _ below meth c s.heap [] 0 0 mc ms _ ⟨B.exec, B.bytes, B.returns, B.notSynchronized, hml, hown, hnm, hts, hws⟩ hl hH va_S.rf (by omega) (by omega)
theorem AW.bud {G : zG} {d : Nat} {Y : zMI} {post : Option Value → zM → Prop} {bc bs bc' bs' pc : Nat} {L : List (Nat × Value)} {S : List Value} {μ : zM} (h : AW G d Y post bc' bs' pc L S μ) (h1 : bc' ≤ bc) (h2 : bs' ≤ bs) : AW G d Y post bc bs pc L S μ :=
  fun p l e s m args below meth c H locs cells slots MC MS ls X hl hH hS hc hs => h p l e s m args below meth c H locs cells slots MC MS ls X hl hH hS (by omega) (by omega)
/-- a contract with another promise, a wider room -/
theorem Meets.weaken {G : zG} {d : Nat} {Y : zMI} {as : List Value} {μ : zM} {post post' : Option Value → zM → Prop} {mc ms : Nat} (h : Meets G d Y as μ post mc ms) (hp : ∀ v μ', post v μ' → post' v μ') : Meets G d Y as μ post' mc ms := by
  intro l p e ha hc hk s m args below hf hap hP hK
  obtain ⟨n, o, h1, h2, h3, ⟨⟨⟨v, μ', q1, q2, q3⟩, q4⟩, q5⟩⟩ := h l p e ha hc hk s m args below hf hap hP hK
  exact ⟨n, o, h1, h2, h3, ⟨⟨⟨v, μ', q1, hp v μ' q2, q3⟩, q4⟩, q5⟩⟩
