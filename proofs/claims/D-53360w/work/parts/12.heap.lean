/-! ROWS over the memory: fields, arrays, new cells, statics, casts, copies -/
set_option maxRecDepth 100000
section ZH
variable {G : zG} {d : Nat} {Y : zMI} {post : Option Value → zM → Prop} {bc bs pc q : Nat} {L : List (Nat × Value)} {S : List Value} {μ : zM}
theorem zTbl_all : List.all lw_all zKeepW = true := by decide +kernel
theorem zTbl_in {w : Cond} (h : w ∈ lw_all) : w ∈ zTbl := zTbl_of (lw_all_tbl h) (List.all_eq_true.mp zTbl_all w h)
/-- the field at the pool's index idx of class own is the k-th of class ci -/
def zFd (own : String) (idx ci k : Nat) (fin : Bool) (ty : FieldType) : Prop := ∃ (C : String) (T : u_T) (N : Nat) (ref : String) (ty0 : Nat → FieldType), zCl[ci]? = some (C, T, N) ∧ k < N ∧ (∀ w ∈ u_ws C T N, w ∈ lw_all) ∧
  (Cond.fieldLink own idx ref (T k).2.1 (T k).2.2.1 ∈ lw_all ∨ ∃ host, Cond.fieldLinkNest own idx ref (T k).2.1 (T k).2.2.1 host ∈ lw_tbl) ∧ (ref = (T k).1 ∨ Cond.sameField ref (T k).1 (T k).2.1 (T k).2.2.1 ∈ lw_all) ∧
  (∀ j, j < N → parseFieldDescriptor (T j).2.2.1 = some (ty0 j)) ∧ (∀ a, a < N → ∀ b, b < N → a ≠ b → (T a).2.1 ≠ (T b).2.1) ∧ (T k).2.2.2 = fin ∧ ty0 k = ty
theorem aw_getfield {a idx ci k : Nat} {fin : Bool} {ty : FieldType} {t : zT} {fs : List Value} {v : Value} (hdg : decode Y.2.1 pc = .ok (.getfield idx, 3)) (hF : zFd Y.1.cls idx ci k fin ty) (hm : μ a = some (t, .inr (ci, fs))) (hv : fs[k]? = some v) (hq : pc + 3 = q) (kk : AW G d Y post bc bs q L (v :: S) μ) : AW G d Y post bc bs pc L (.ref a :: S) μ := by
  subst hq
  intro p l e s m args below meth c H locs cells slots MC MS ls X hl hH hS hc hs
  have kk := kk p l e s m args below meth c H locs cells slots MC MS ls X hl hH hS hc hs
  obtain ⟨x1, x2, x3, x4, x5, hown, x7, hts, hK, hTW, hz, hst⟩ := X
  obtain ⟨C, T, N, ref, ty0, f1, f2, f3, f4, f5, f6, f7, f8, f9⟩ := hF
  obtain ⟨r, cell, g1, g2, g3, g4, g5, g6⟩ := hH.obj hst hz hS hm
  cases f1.symm.trans g1
  obtain ⟨hSl, hfc, kC, hkC, hkind⟩ := hK.1 ci _ f1
  obtain ⟨cf, kf, fi, f, hi, hsl⟩ := hSl k f2
  have hstf := (u_facts hfc hkC (u_lays hts f3 f2) hi).1
  have hsame : s.fieldFound? ref (T k).2.1 (T k).2.2.1 = some (cf, kf, fi, f) := by
    rcases f5 with h | h
    · rw [h]; exact hi
    · exact u_same (hts _ h) _ hi
  have hslot : cell.slots[f.slot]? = some v := by
    rw [hsl, g6 k f2]
    simp [vp_V, hv]
  rcases f4 with h | ⟨host, h⟩
  · exact W.getf x1 x2 hown (hts _ h) hsame hstf g2 g4 hslot rfl rfl hdg kk
  · exact va_Wgetf x1 x2 hown (va_Nw.use rfl (hTW _ (zTbl_of h rfl))) hsame hstf g2 g4 hslot rfl rfl hdg kk
theorem aw_putfield {a idx ci k : Nat} {ty : FieldType} {t : zT} {fs : List Value} {v : Value} (hdg : decode Y.2.1 pc = .ok (.putfield idx, 3)) (hF : zFd Y.1.cls idx ci k false ty) (hm : μ a = some (t, .inr (ci, fs))) (ht : t ≠ zC) (hn : narrow ty v = v) (hf : fits ty v = true) (hl0 : k < fs.length) (hq : pc + 3 = q) (kk : ∀ μ', μ' = updM μ a (t, .inr (ci, fs.set k v)) → AW G d Y post bc bs q L S μ') : AW G d Y post bc bs pc L (v :: .ref a :: S) μ := by
  subst hq
  intro p l e s m args below meth c H locs cells slots MC MS ls X hl hH hS hc hs
  have kk := fun H1 locs1 hH1 hS1 => kk _ rfl p l e s m args below meth c H1 locs1 cells slots MC MS ls X hl hH1 hS1 hc hs
  obtain ⟨x1, x2, x3, x4, x5, hown, x7, hts, hK, hTW, hz, hst⟩ := X
  obtain ⟨C, T, N, ref, ty0, f1, f2, f3, f4, f5, f6, f7, f8, f9⟩ := hF
  obtain ⟨ws, k0, hP, hw, hk0⟩ := hH.mut hm ht
  have hsame : ∀ x, s.fieldFound? (T k).1 (T k).2.1 (T k).2.2.1 = some x → s.fieldFound? ref (T k).2.1 (T k).2.2.1 = some x := by
    intro x hi
    rcases f5 with h | h
    · rw [h]; exact hi
    · exact u_same (hts _ h) _ hi
  rcases f4 with h | ⟨host, h⟩
  · exact va_put x1 x2 hts f3 ty0 f6 f7 hown hK hP hw.1 hS k0 hk0 f1 k f2 (hts _ h) hsame f8 (ty := ty) (by rw [f6 k f2, f9]) hn hf hl0 hdg (fun H1 locs1 hP1 hD1 hS1 => kk H1 locs1 ⟨_, hP1, hw.set hst.low hk0 ht⟩ hS1)
  · exact va_putN x1 x2 hts f3 ty0 f6 f7 hown hK hP hw.1 hS k0 hk0 f1 k f2 (va_Nw.use rfl (hTW _ (zTbl_of h rfl))) hsame f8 (ty := ty) (by rw [f6 k f2, f9]) hn hf hl0 hdg (fun H1 locs1 hP1 hD1 hS1 => kk H1 locs1 ⟨_, hP1, hw.set hst.low hk0 ht⟩ hS1)
/-- .. and a final field, in its class's constructor -/
def zFdF (own : String) (idx ci k : Nat) (ty : FieldType) : Prop := ∃ (C : String) (T : u_T) (N : Nat) (ref : String) (ty0 : Nat → FieldType), zCl[ci]? = some (C, T, N) ∧ k < N ∧ (∀ w ∈ u_ws C T N, w ∈ lw_all) ∧
  (Cond.fieldLink own idx ref (T k).2.1 (T k).2.2.1 ∈ lw_all) ∧ (ref = (T k).1) ∧
  (∀ j, j < N → parseFieldDescriptor (T j).2.2.1 = some (ty0 j)) ∧ (∀ a, a < N → ∀ b, b < N → a ≠ b → (T a).2.1 ≠ (T b).2.1) ∧ (T k).2.2.2 = true ∧ ty0 k = ty ∧ (T k).1 = own
theorem aw_putF {a idx ci k : Nat} {ty : FieldType} {t : zT} {fs : List Value} {v : Value} (hdg : decode Y.2.1 pc = .ok (.putfield idx, 3)) (hF : zFdF Y.1.cls idx ci k ty) (hin : Y.1.name = "<init>") (hm : μ a = some (t, .inr (ci, fs))) (ht : t ≠ zC) (hn : narrow ty v = v) (hf : fits ty v = true) (hl0 : k < fs.length) (hq : pc + 3 = q) (kk : ∀ μ', μ' = updM μ a (t, .inr (ci, fs.set k v)) → AW G d Y post bc bs q L S μ') : AW G d Y post bc bs pc L (v :: .ref a :: S) μ := by
  subst hq
  intro p l e s m args below meth c H locs cells slots MC MS ls X hl hH hS hc hs
  have kk := fun H1 locs1 hH1 hS1 => kk _ rfl p l e s m args below meth c H1 locs1 cells slots MC MS ls X hl hH1 hS1 hc hs
  obtain ⟨x1, x2, x3, x4, x5, hown, x7, hts, hK, hTW, hz, hst⟩ := X
  obtain ⟨C, T, N, ref, ty0, f1, f2, f3, f4, f5, f6, f7, f8, f9, f10⟩ := hF
  obtain ⟨ws, k0, hP, hw, hk0⟩ := hH.mut hm ht
  have hsame : ∀ x, s.fieldFound? (T k).1 (T k).2.1 (T k).2.2.1 = some x → s.fieldFound? ref (T k).2.1 (T k).2.2.1 = some x := by
    intro x hi
    rw [f5]; exact hi
  exact va_putF x1 x2 hts f3 ty0 f6 f7 hown hK hP hw.1 hS k0 hk0 f1 k f2 (hts _ f4) hsame f8 (x7.trans hin) f10 (ty := ty) (by rw [f6 k f2, f9]) hn hf hl0 hdg (fun H1 locs1 hP1 hD1 hS1 => kk H1 locs1 ⟨_, hP1, hw.set hst.low hk0 ht⟩ hS1)
/-- a ghost's change: a cell's tag -/
theorem aw_retag {a : Nat} {t t' : zT} {e : va_E} (hm : μ a = some (t, e)) (ht : t ≠ zC) (ht' : t' ≠ zC) (kk : ∀ μ', μ' = updM μ a (t', e) → AW G d Y post bc bs pc L S μ') : AW G d Y post bc bs pc L S μ := by
  intro p l e s m args below meth c H locs cells slots MC MS ls X hl hH hS hc hs
  obtain ⟨ws, hP, hw⟩ := hH
  exact kk _ rfl p l e s m args below meth c H locs cells slots MC MS ls X hl ⟨ws, hP, hw.retag X.2.2.2.2.2.2.2.2.2.2.2.low hm ht ht'⟩ hS hc hs
/-- the constants stand in the memory -/
theorem aw_const (kk : (∀ (a : Nat) (e : va_E), zConst G a e → μ a = some (zC, e)) → AW G d Y post bc bs pc L S μ) : AW G d Y post bc bs pc L S μ := by
  intro p l e s m args below meth c H locs cells slots MC MS ls X hl hH hS hc hs
  obtain ⟨ws, hP, hw⟩ := hH
  exact kk hw.2.2 p l e s m args below meth c H locs cells slots MC MS ls X hl ⟨ws, hP, hw⟩ hS hc hs
/-- 'new' at the pool's index idx of class own makes an object of class ci with fields fs -/
def zNw (own : String) (idx ci N : Nat) (fs : List Value) : Prop := ∃ (C : String) (T : u_T) (ty : Nat → FieldType), zCl[ci]? = some (C, T, N) ∧ (∀ w ∈ u_ws C T N, w ∈ lw_all) ∧ (∀ k, k < N → parseFieldDescriptor (T k).2.2.1 = some (ty k)) ∧
  Cond.classLink own idx C ∈ lw_all ∧ Cond.instantiable C N ∈ lw_all ∧ Cond.initialized C ∈ lw_all ∧ ∀ j, j < N → defaultValue (ty j) = vp_V fs j
theorem aw_new {idx ci N : Nat} {fs : List Value} (hdg : decode Y.2.1 pc = .ok (.new idx, 3)) (hN : zNw Y.1.cls idx ci N fs) (t : zT) (ht : t ≠ zC) (hq : pc + 3 = q) (kk : ∀ a μ', μ a = none → μ' = updM μ a (t, .inr (ci, fs)) → AW G d Y post bc bs q L (.ref a :: S) μ') : AW G d Y post (bc + 1) (bs + N) pc L S μ := by
  subst hq
  intro p l e s m args below meth c H locs cells slots MC MS ls X hl hH hS hc hs
  have kk := fun a ha H1 hH1 hS1 => kk a _ ha rfl p l e s m args below meth c H1 locs (cells + 1) (slots + N) MC MS ls X hl hH1 hS1 (by omega) (by omega)
  obtain ⟨x1, x2, x3, x4, x5, hown, x7, hts, hK, hTW, hz, hst⟩ := X
  obtain ⟨C, T, ty, f1, f2, f3, f4, f5, f6, f7⟩ := hN
  obtain ⟨ws, hP, hw⟩ := hH
  exact va_new x1 x2 hts f2 ty f3 hown (hts _ f4) (hts _ f5) (hts _ f6) hK hP hw.1 hS (fun a h => Nat.le_trans hz h) f1 f7 (show cells + 1 ≤ MC by omega) (show slots + N ≤ MS by omega) hdg (fun a H1 hP1 hD1 hS1 => kk a (hw.fresh hst.low hD1) H1 ⟨_, hP1, hw.push hst.low hD1 ht⟩ hS1)
end ZH
section ZHA
variable {G : zG} {d : Nat} {Y : zMI} {post : Option Value → zM → Prop} {bc bs pc q : Nat} {L : List (Nat × Value)} {S : List Value} {μ : zM}
abbrev aI (G : zG) (n : Nat) (f : Nat → Int32) : va_E := .inl (G.2.1 0, n, .inl f)
abbrev aB (G : zG) (n : Nat) (f : Nat → Int32) : va_E := .inl (G.2.1 1, n, .inl f)
abbrev aZ (G : zG) (n : Nat) (f : Nat → Int32) : va_E := .inl (G.2.1 2, n, .inl f)
abbrev aO (G : zG) (n : Nat) (f : Nat → Option Nat) : va_E := .inl (G.2.1 3, n, .inr (.inr (.inr (.inr f))))
abbrev aP (G : zG) (n : Nat) (f : Nat → Option Nat) : va_E := .inl (G.2.1 4, n, .inr (.inr (.inr (.inr f))))
abbrev aN (G : zG) (n : Nat) (f : Nat → Option Nat) : va_E := .inl (G.2.1 5, n, .inr (.inr (.inr (.inr f))))
theorem zin {i : Int32} {k n : Nat} (hi : i = nI k) (hk : k < n) (hn : n < 2 ^ 31) : vp_in i n := by subst hi; exact vp_in_nI hk hn
theorem zcl {i : Int32} {k n : Nat} (hi : i = nI k) (hk : k < n) (hn : n < 2 ^ 31) : i.toNatClampNeg = k := by subst hi; exact nI_clamp (by omega)
theorem aw_iald {a n : Nat} {f : Nat → Int32} {t : zT} {i v : Int32} (k : Nat) (hdg : decode Y.2.1 pc = .ok (.iaload, 1)) (hm : μ a = some (t, aI G n f)) (hi : i = nI k) (hk : k < n) (hn : n < 2 ^ 31) (hv : f k = v) (hq : pc + 1 = q) (kk : AW G d Y post bc bs q L (.int v :: S) μ) : AW G d Y post bc bs pc L (.int i :: .ref a :: S) μ := by
  subst hq; subst hv
  intro p l e s m args below meth c H locs cells slots MC MS ls X hl hH hS hc hs
  have kk := kk p l e s m args below meth c H locs cells slots MC MS ls X hl hH hS hc hs
  obtain ⟨x1, x2, x3, x4, x5, hown, x7, hts, hK, hTW, hz, hst⟩ := X
  obtain ⟨ws, k0, hP, hw, hk0⟩ := hH.arr hm
  exact va_iald x1 x2 hK hP k0 0 hk0 rfl (zin hi hk hn) hdg (by rw [zcl hi hk hn]; exact kk)
theorem aw_bald {a n : Nat} {f : Nat → Int32} {t : zT} {i v : Int32} (k : Nat) (hdg : decode Y.2.1 pc = .ok (.baload, 1)) (hm : μ a = some (t, aB G n f)) (hi : i = nI k) (hk : k < n) (hn : n < 2 ^ 31) (hv : f k = v) (hq : pc + 1 = q) (kk : AW G d Y post bc bs q L (.int v :: S) μ) : AW G d Y post bc bs pc L (.int i :: .ref a :: S) μ := by
  subst hq; subst hv
  intro p l e s m args below meth c H locs cells slots MC MS ls X hl hH hS hc hs
  have kk := kk p l e s m args below meth c H locs cells slots MC MS ls X hl hH hS hc hs
  obtain ⟨x1, x2, x3, x4, x5, hown, x7, hts, hK, hTW, hz, hst⟩ := X
  obtain ⟨ws, k0, hP, hw, hk0⟩ := hH.arr hm
  exact va_bald x1 x2 hK hP k0 1 hk0 rfl (zin hi hk hn) hdg (by rw [zcl hi hk hn]; exact kk)
theorem aw_zald {a n : Nat} {f : Nat → Int32} {t : zT} {i v : Int32} (k : Nat) (hdg : decode Y.2.1 pc = .ok (.baload, 1)) (hm : μ a = some (t, aZ G n f)) (hi : i = nI k) (hk : k < n) (hn : n < 2 ^ 31) (hv : f k = v) (hq : pc + 1 = q) (kk : AW G d Y post bc bs q L (.int v :: S) μ) : AW G d Y post bc bs pc L (.int i :: .ref a :: S) μ := by
  subst hq; subst hv
  intro p l e s m args below meth c H locs cells slots MC MS ls X hl hH hS hc hs
  have kk := kk p l e s m args below meth c H locs cells slots MC MS ls X hl hH hS hc hs
  obtain ⟨x1, x2, x3, x4, x5, hown, x7, hts, hK, hTW, hz, hst⟩ := X
  obtain ⟨ws, k0, hP, hw, hk0⟩ := hH.arr hm
  exact va_zald x1 x2 hK hP k0 2 hk0 rfl (zin hi hk hn) hdg (by rw [zcl hi hk hn]; exact kk)
theorem aw_aaldX {a n j : Nat} {E : String} {f : Nat → Option Nat} {t : zT} {i : Int32} {v : Option Nat} (k : Nat) (hdg : decode Y.2.1 pc = .ok (.aaload, 1)) (hj : (zTys G)[j]? = some (G.2.1 j, .object E)) (hm : μ a = some (t, .inl (G.2.1 j, n, .inr (.inr (.inr (.inr f)))))) (hi : i = nI k) (hk : k < n) (hn : n < 2 ^ 31) (hv : f k = v) (hq : pc + 1 = q) (kk : AW G d Y post bc bs q L (va_rf v :: S) μ) : AW G d Y post bc bs pc L (.int i :: .ref a :: S) μ := by
  subst hq; subst hv
  intro p l e s m args below meth c H locs cells slots MC MS ls X hl hH hS hc hs
  have kk := kk p l e s m args below meth c H locs cells slots MC MS ls X hl hH hS hc hs
  obtain ⟨x1, x2, x3, x4, x5, hown, x7, hts, hK, hTW, hz, hst⟩ := X
  obtain ⟨ws, k0, hP, hw, hk0⟩ := hH.arr hm
  exact va_aldq x1 x2 hK hP k0 j hk0 hj (zin hi hk hn) hdg (by rw [zcl hi hk hn]; exact kk)
theorem aw_alen {a j : Nat} {x : vp_A} {ty : FieldType} {t : zT} {v : Int32} (hdg : decode Y.2.1 pc = .ok (.arraylength, 1)) (hj : (zTys G)[j]? = some (G.2.1 j, ty)) (hm : μ a = some (t, .inl (G.2.1 j, x))) (hv : nI x.1 = v) (hq : pc + 1 = q) (kk : AW G d Y post bc bs q L (.int v :: S) μ) : AW G d Y post bc bs pc L (.ref a :: S) μ := by
  subst hq
  intro p l e s m args below meth c H locs cells slots MC MS ls X hl hH hS hc hs
  have kk := kk p l e s m args below meth c H locs cells slots MC MS ls X hl hH hS hc hs
  obtain ⟨x1, x2, x3, x4, x5, hown, x7, hts, hK, hTW, hz, hst⟩ := X
  obtain ⟨ws, k0, hP, hw, hk0⟩ := hH.arr hm
  exact va_alen x1 x2 hK hP k0 j hk0 hj hv hdg kk
theorem aw_iast {a n : Nat} {f : Nat → Int32} {t : zT} {i x : Int32} (k : Nat) (hdg : decode Y.2.1 pc = .ok (.iastore, 1)) (hm : μ a = some (t, aI G n f)) (ht : t ≠ zC) (hi : i = nI k) (hk : k < n) (hn : n < 2 ^ 31) (hq : pc + 1 = q) (kk : ∀ μ', μ' = updM μ a (t, aI G n (upd f k x)) → AW G d Y post bc bs q L S μ') : AW G d Y post bc bs pc L (.int x :: .int i :: .ref a :: S) μ := by
  subst hq
  intro p l e s m args below meth c H locs cells slots MC MS ls X hl hH hS hc hs
  have kk := fun H1 locs1 hH1 hS1 => kk _ rfl p l e s m args below meth c H1 locs1 cells slots MC MS ls X hl hH1 hS1 hc hs
  obtain ⟨x1, x2, x3, x4, x5, hown, x7, hts, hK, hTW, hz, hst⟩ := X
  obtain ⟨ws, k0, hP, hw, hk0⟩ := hH.mut hm ht
  refine va_iast x1 x2 hK hP hw.1 hS k0 0 hk0 rfl (zin hi hk hn) hdg (fun H1 locs1 hP1 hD1 hS1 => ?_)
  rw [zcl hi hk hn] at hP1
  exact kk H1 locs1 ⟨_, hP1, hw.set hst.low hk0 ht⟩ hS1
theorem aw_bast {a n : Nat} {f : Nat → Int32} {t : zT} {i x : Int32} (k : Nat) (hdg : decode Y.2.1 pc = .ok (.bastore, 1)) (hm : μ a = some (t, aB G n f)) (ht : t ≠ zC) (hi : i = nI k) (hk : k < n) (hn : n < 2 ^ 31) (hq : pc + 1 = q) (kk : ∀ μ', μ' = updM μ a (t, aB G n (upd f k (vp_nar .byte x))) → AW G d Y post bc bs q L S μ') : AW G d Y post bc bs pc L (.int x :: .int i :: .ref a :: S) μ := by
  subst hq
  intro p l e s m args below meth c H locs cells slots MC MS ls X hl hH hS hc hs
  have kk := fun H1 locs1 hH1 hS1 => kk _ rfl p l e s m args below meth c H1 locs1 cells slots MC MS ls X hl hH1 hS1 hc hs
  obtain ⟨x1, x2, x3, x4, x5, hown, x7, hts, hK, hTW, hz, hst⟩ := X
  obtain ⟨ws, k0, hP, hw, hk0⟩ := hH.mut hm ht
  refine va_bast x1 x2 hK hP hw.1 hS k0 1 hk0 rfl (zin hi hk hn) hdg (fun H1 locs1 hP1 hD1 hS1 => ?_)
  rw [zcl hi hk hn] at hP1
  exact kk H1 locs1 ⟨_, hP1, hw.set hst.low hk0 ht⟩ hS1
theorem aw_zast {a n : Nat} {f : Nat → Int32} {t : zT} {i x : Int32} (k : Nat) (hdg : decode Y.2.1 pc = .ok (.bastore, 1)) (hm : μ a = some (t, aZ G n f)) (ht : t ≠ zC) (hi : i = nI k) (hk : k < n) (hn : n < 2 ^ 31) (hq : pc + 1 = q) (kk : ∀ μ', μ' = updM μ a (t, aZ G n (upd f k (vp_nar .boolean x))) → AW G d Y post bc bs q L S μ') : AW G d Y post bc bs pc L (.int x :: .int i :: .ref a :: S) μ := by
  subst hq
  intro p l e s m args below meth c H locs cells slots MC MS ls X hl hH hS hc hs
  have kk := fun H1 locs1 hH1 hS1 => kk _ rfl p l e s m args below meth c H1 locs1 cells slots MC MS ls X hl hH1 hS1 hc hs
  obtain ⟨x1, x2, x3, x4, x5, hown, x7, hts, hK, hTW, hz, hst⟩ := X
  obtain ⟨ws, k0, hP, hw, hk0⟩ := hH.mut hm ht
  refine va_zast x1 x2 hK hP hw.1 hS k0 2 hk0 rfl (zin hi hk hn) hdg (fun H1 locs1 hP1 hD1 hS1 => ?_)
  rw [zcl hi hk hn] at hP1
  exact kk H1 locs1 ⟨_, hP1, hw.set hst.low hk0 ht⟩ hS1
/-- class ci may stand where E is asked -/
def zCast (ci : Nat) (E : String) : Prop := ∃ r : vw_C, zCl[ci]? = some r ∧ (r.1 = E ∨ Cond.castable r.1 E ∈ lw_tbl)
theorem zHp.recv {μ : zM} {H : Heap} {locs : List Loc} {s : State} (hws : zWs G s) (hS : va_S (zA G) s.heap H locs) (hH : zHp G μ H) {a ci : Nat} {t : zT} {fs : List Value} (hm : μ a = some (t, .inr (ci, fs))) {r : vw_C} (hr : zCl[ci]? = some r) : ∃ cell : Cell, H[a]? = some cell ∧ cell.vm.isStatics = false ∧ s.vm.findClass r.1 = some cell.cls := by
  obtain ⟨r', cell, g1, g2, g3, g4, g5, g6⟩ := hH.obj hws.2.2.2 hws.2.2.1 hS hm
  cases hr.symm.trans g1
  exact ⟨cell, g2, g5, by rw [g3]; exact (hws.1.1 ci r hr).2.1⟩
theorem zHp.any {μ : zM} {H : Heap} {locs : List Loc} {s : State} (hws : zWs G s) (hS : va_S (zA G) s.heap H locs) (hH : zHp G μ H) {a ci : Nat} {t : zT} {fs : List Value} (hm : μ a = some (t, .inr (ci, fs))) {E : String} (hc : zCast ci E) : va_Any E s H a := by
  obtain ⟨r, hr, hE⟩ := hc
  obtain ⟨cell, h1, h2, h3⟩ := hH.recv hws hS hm hr
  obtain ⟨kC, hkC, -⟩ := Vm.findClass_spec h3
  refine ⟨cell, h1, h2, ⟨kC, hkC⟩, fun comp h => ?_⟩
  rcases hE with e | e
  · subst e
    cases h3.symm.trans h
    have hcA := (hws.1.1 ci r hr).2
    have e : cell.cls = G.1.1 ci := Option.some.inj (h3.symm.trans hcA.1)
    rw [e]
    exact va_assign hcA
  · obtain ⟨c0, t1, f1, f2, f3⟩ := Cond.castable_spec (va_Nw.use (A := #[]) rfl (hws.2.1 _ (zTbl_of e rfl)))
    cases h3.symm.trans f1
    cases h.symm.trans f2
    exact f3
theorem aw_aastX {a n j w ci : Nat} {E : String} {f : Nat → Option Nat} {t t' : zT} {fs : List Value} {i : Int32} (k : Nat) (hdg : decode Y.2.1 pc = .ok (.aastore, 1)) (hj : (zTys G)[j]? = some (G.2.1 j, .object E)) (hm : μ a = some (t, .inl (G.2.1 j, n, .inr (.inr (.inr (.inr f)))))) (ht : t ≠ zC) (hw0 : μ w = some (t', .inr (ci, fs))) (hca : zCast ci E) (hi : i = nI k) (hk : k < n) (hn : n < 2 ^ 31) (hq : pc + 1 = q) (kk : ∀ μ', μ' = updM μ a (t, .inl (G.2.1 j, n, .inr (.inr (.inr (.inr (va_up f k (some w))))))) → AW G d Y post bc bs q L S μ') : AW G d Y post bc bs pc L (.ref w :: .int i :: .ref a :: S) μ := by
  subst hq
  intro p l e s m args below meth c H locs cells slots MC MS ls X hl hH hS hc hs
  have kk := fun H1 locs1 hH1 hS1 => kk _ rfl p l e s m args below meth c H1 locs1 cells slots MC MS ls X hl hH1 hS1 hc hs
  have hany := hH.any X.2.2.2.2.2.2.2.2 hS hw0 hca
  obtain ⟨x1, x2, x3, x4, x5, hown, x7, hts, hK, hTW, hz, hst⟩ := X
  obtain ⟨ws, k0, hP, hw, hk0⟩ := hH.mut hm ht
  refine va_astqM x1 x2 hK hP hw.1 hS k0 j hk0 hj hany (zin hi hk hn) hdg (fun H1 locs1 hP1 hD1 hS1 => ?_)
  rw [zcl hi hk hn] at hP1
  exact kk H1 locs1 ⟨_, hP1, hw.set hst.low hk0 ht⟩ hS1
theorem aw_aastN {a n j : Nat} {E : String} {f : Nat → Option Nat} {t : zT} {i : Int32} (k : Nat) (hdg : decode Y.2.1 pc = .ok (.aastore, 1)) (hj : (zTys G)[j]? = some (G.2.1 j, .object E)) (hm : μ a = some (t, .inl (G.2.1 j, n, .inr (.inr (.inr (.inr f)))))) (ht : t ≠ zC) (hi : i = nI k) (hk : k < n) (hn : n < 2 ^ 31) (hq : pc + 1 = q) (kk : ∀ μ', μ' = updM μ a (t, .inl (G.2.1 j, n, .inr (.inr (.inr (.inr (va_up f k none)))))) → AW G d Y post bc bs q L S μ') : AW G d Y post bc bs pc L (.null :: .int i :: .ref a :: S) μ := by
  subst hq
  intro p l e s m args below meth c H locs cells slots MC MS ls X hl hH hS hc hs
  have kk := fun H1 locs1 hH1 hS1 => kk _ rfl p l e s m args below meth c H1 locs1 cells slots MC MS ls X hl hH1 hS1 hc hs
  obtain ⟨x1, x2, x3, x4, x5, hown, x7, hts, hK, hTW, hz, hst⟩ := X
  obtain ⟨ws, k0, hP, hw, hk0⟩ := hH.mut hm ht
  refine va_astqN x1 x2 hK hP hw.1 hS k0 j hk0 hj (zin hi hk hn) hdg (fun H1 locs1 hP1 hD1 hS1 => ?_)
  rw [zcl hi hk hn] at hP1
  exact kk H1 locs1 ⟨_, hP1, hw.set hst.low hk0 ht⟩ hS1
theorem zTy_eq {s : State} {cA : ClassId} {ty : FieldType} {j : Nat} (hK : va_K G.1 zCl (zTys G ++ [(cA, ty)]) s) (hj : (zTys G)[j]? = some (G.2.1 j, ty)) : cA = G.2.1 j := by
  have hlt := (List.getElem?_eq_some_iff.mp hj).1
  have h1 := (hK.2 j (G.2.1 j, ty) (by rw [List.getElem?_append_left hlt]; exact hj)).2
  have h2 := (hK.2 (zTys G).length (cA, ty) (by rw [List.getElem?_append_right (Nat.le_refl _), Nat.sub_self]; rfl)).2
  cases ty with
  | object C =>
    obtain ⟨k1, c1, a1, a2, a3, a4⟩ := h1
    obtain ⟨k2, c2, b1, b2, b3, b4⟩ := h2
    exact Option.some.inj (b4.symm.trans a4)
  | _ => exact Option.some.inj (h2.symm.trans h1)
theorem aw_newaX {atype : ArrayType} {ty : FieldType} {j N : Nat} {n : Int32} {a0 : vp_A} (hdg : decode Y.2.1 pc = .ok (.newarray atype, 2)) (hty : newarray.typeOf atype = ty) (hj : (zTys G)[j]? = some (G.2.1 j, ty)) (harr : Cond.arrayClass (newarray.typeOf atype) ∈ lw_all) (ha : ∀ cA : ClassId, vp_cell cA a0 = arrV cA N (fun _ => defaultValue ty)) (hN : n = nI N) (hb : N < 2 ^ 26) (t : zT) (ht : t ≠ zC) (hcb : componentBytes ty ≤ 8) (hq : pc + 2 = q) (kk : ∀ a μ', μ a = none → μ' = updM μ a (t, .inl (G.2.1 j, a0)) → AW G d Y post bc bs q L (.ref a :: S) μ') : AW G d Y post (bc + 1) (bs + N) pc L (.int n :: S) μ := by
  subst hq
  intro p l e s m args below meth c H locs cells slots MC MS ls X hl hH hS hc hs
  have kk := fun a ha H1 hH1 hS1 => kk a _ ha rfl p l e s m args below meth c H1 locs (cells + 1) (slots + N) MC MS ls X hl hH1 hS1 (by omega) (by omega)
  obtain ⟨x1, x2, x3, x4, x5, hown, x7, hts, hK, hTW, hz, hst⟩ := X
  obtain ⟨ws, hP, hw⟩ := hH
  have hb' : N * componentBytes ty ≤ 536870912 := Nat.le_trans (Nat.mul_le_mul (Nat.le_of_lt hb) hcb) (by decide)
  refine va_newa x1 x2 (hts _ harr) hty hK hP hw.1 hS (fun a h => Nat.le_trans hz h) ha (by rw [hN]; exact nI_pos (by omega)) (by rw [hN]; exact nI_clamp (by omega)) hb' (show cells + 1 ≤ MC by omega) (show slots + N ≤ MS by omega) hdg (fun a cA H1 hK1 hP1 hD1 hS1 => ?_)
  have e := zTy_eq hK1 hj
  subst e
  exact kk a (hw.fresh hst.low hD1) H1 ⟨_, hP1, hw.push hst.low hD1 ht⟩ hS1
theorem aw_newa {N : Nat} {n : Int32} (hdg : decode Y.2.1 pc = .ok (.newarray .int, 2)) (hN : n = nI N) (hb : N < 2 ^ 26) (t : zT) (ht : t ≠ zC) (hq : pc + 2 = q) (kk : ∀ a μ', μ a = none → μ' = updM μ a (t, aI G N (fun _ => 0)) → AW G d Y post bc bs q L (.ref a :: S) μ') : AW G d Y post (bc + 1) (bs + N) pc L (.int n :: S) μ :=
  aw_newaX hdg rfl (j := 0) rfl q164 (a0 := (N, .inl (fun _ => 0))) (fun cA => by rw [vp_cell_i]; rfl) hN hb t ht (by decide) hq kk
theorem aw_newb {N : Nat} {n : Int32} (hdg : decode Y.2.1 pc = .ok (.newarray .byte, 2)) (hN : n = nI N) (hb : N < 2 ^ 26) (t : zT) (ht : t ≠ zC) (hq : pc + 2 = q) (kk : ∀ a μ', μ a = none → μ' = updM μ a (t, aB G N (fun _ => 0)) → AW G d Y post bc bs q L (.ref a :: S) μ') : AW G d Y post (bc + 1) (bs + N) pc L (.int n :: S) μ :=
  aw_newaX hdg rfl (j := 1) rfl q280 (a0 := (N, .inl (fun _ => 0))) (fun cA => by rw [vp_cell_i]; rfl) hN hb t ht (by decide) hq kk
theorem aw_newz {N : Nat} {n : Int32} (hdg : decode Y.2.1 pc = .ok (.newarray .boolean, 2)) (hN : n = nI N) (hb : N < 2 ^ 26) (t : zT) (ht : t ≠ zC) (hq : pc + 2 = q) (kk : ∀ a μ', μ a = none → μ' = updM μ a (t, aZ G N (fun _ => 0)) → AW G d Y post bc bs q L (.ref a :: S) μ') : AW G d Y post (bc + 1) (bs + N) pc L (.int n :: S) μ :=
  aw_newaX hdg rfl (j := 2) rfl q2007 (a0 := (N, .inl (fun _ => 0))) (fun cA => by rw [vp_cell_i]; rfl) hN hb t ht (by decide) hq kk
theorem aw_newq {idx j N : Nat} {C : String} {n : Int32} (hdg : decode Y.2.1 pc = .ok (.anewarray idx, 3)) (hcl : Cond.classLink Y.1.cls idx C ∈ lw_all) (hov : Cond.arrayOver (.object C) ∈ lw_tbl) (hj : (zTys G)[j]? = some (G.2.1 j, .object C)) (hN : n = nI N) (hb : N < 2 ^ 26) (t : zT) (ht : t ≠ zC) (hq : pc + 3 = q) (kk : ∀ a μ', μ a = none → μ' = updM μ a (t, .inl (G.2.1 j, N, .inr (.inr (.inr (.inr (fun _ => none)))))) → AW G d Y post bc bs q L (.ref a :: S) μ') : AW G d Y post (bc + 1) (bs + N) pc L (.int n :: S) μ := by
  subst hq
  intro p l e s m args below meth c H locs cells slots MC MS ls X hl hH hS hc hs
  have kk := fun a ha H1 hH1 hS1 => kk a _ ha rfl p l e s m args below meth c H1 locs (cells + 1) (slots + N) MC MS ls X hl hH1 hS1 (by omega) (by omega)
  obtain ⟨x1, x2, x3, x4, x5, hown, x7, hts, hK, hTW, hz, hst⟩ := X
  obtain ⟨ws, hP, hw⟩ := hH
  refine va_newq x1 x2 hown (hts _ hcl) (va_AO.of (A := #[]) (hTW _ (zTbl_of hov rfl))) hK hP hw.1 hS (fun a h => Nat.le_trans hz h) (by rw [hN]; exact nI_pos (by omega)) (by rw [hN]; exact nI_clamp (by omega)) (by omega) (show cells + 1 ≤ MC by omega) (show slots + N ≤ MS by omega) hdg (fun a cA H1 hK1 hP1 hD1 hS1 => ?_)
  have e := zTy_eq hK1 hj
  subst e
  exact kk a (hw.fresh hst.low hD1) H1 ⟨_, hP1, hw.push hst.low hD1 ht⟩ hS1
/-- checkcast, instanceof -/
theorem aw_cast {a idx ci : Nat} {E : String} {t : zT} {fs : List Value} (hdg : decode Y.2.1 pc = .ok (.checkcast idx, 3)) (hcl : Cond.classLink Y.1.cls idx E ∈ lw_all) (hm : μ a = some (t, .inr (ci, fs))) (hca : zCast ci E) (hq : pc + 3 = q) (kk : AW G d Y post bc bs q L (.ref a :: S) μ) : AW G d Y post bc bs pc L (.ref a :: S) μ := by
  subst hq
  intro p l e s m args below meth c H locs cells slots MC MS ls X hl hH hS hc hs
  have kk := kk p l e s m args below meth c H locs cells slots MC MS ls X hl hH hS hc hs
  obtain ⟨r, hr, hE⟩ := hca
  have hrc := hH.recv X.2.2.2.2.2.2.2.2 hS hm hr
  obtain ⟨x1, x2, x3, x4, x5, hown, x7, hts, hK, hTW, hz, hst⟩ := X
  rcases hE with e0 | e0
  · subst e0
    exact va_castS x1 x2 hown (hts _ hcl) (hK.1 ci r hr).2 hrc hdg kk
  · exact va_castY x1 x2 hown (hts _ hcl) (hTW _ (zTbl_of e0 rfl)) hrc hdg kk
theorem aw_castN {idx : Nat} (hdg : decode Y.2.1 pc = .ok (.checkcast idx, 3)) (hq : pc + 3 = q) (kk : AW G d Y post bc bs q L (.null :: S) μ) : AW G d Y post bc bs pc L (.null :: S) μ := by
  subst hq
  intro p l e s m args below meth c H locs cells slots MC MS ls X hl hH hS hc hs
  exact lv_castN X.1 X.2.1 hdg (kk p l e s m args below meth c H locs cells slots MC MS ls X hl hH hS hc hs)
theorem aw_instY {a idx ci : Nat} {E : String} {t : zT} {fs : List Value} (hdg : decode Y.2.1 pc = .ok (.instanceof idx, 3)) (hcl : Cond.classLink Y.1.cls idx E ∈ lw_all) (hm : μ a = some (t, .inr (ci, fs))) (hca : zCast ci E) (hq : pc + 3 = q) (kk : AW G d Y post bc bs q L (.int 1 :: S) μ) : AW G d Y post bc bs pc L (.ref a :: S) μ := by
  subst hq
  intro p l e s m args below meth c H locs cells slots MC MS ls X hl hH hS hc hs
  have kk := kk p l e s m args below meth c H locs cells slots MC MS ls X hl hH hS hc hs
  obtain ⟨r, hr, hE⟩ := hca
  have hrc := hH.recv X.2.2.2.2.2.2.2.2 hS hm hr
  obtain ⟨x1, x2, x3, x4, x5, hown, x7, hts, hK, hTW, hz, hst⟩ := X
  rcases hE with e0 | e0
  · subst e0
    exact va_instS x1 x2 hown (hts _ hcl) (hK.1 ci r hr).2 hrc hdg kk
  · exact va_instY x1 x2 hown (hts _ hcl) (hTW _ (zTbl_of e0 rfl)) hrc hdg kk
theorem aw_instNo {a idx ci : Nat} {E : String} {t : zT} {fs : List Value} {r : vw_C} (hdg : decode Y.2.1 pc = .ok (.instanceof idx, 3)) (hcl : Cond.classLink Y.1.cls idx E ∈ lw_all) (hm : μ a = some (t, .inr (ci, fs))) (hr : zCl[ci]? = some r) (hno : (r.1, E) ∈ zNcL) (hq : pc + 3 = q) (kk : AW G d Y post bc bs q L (.int 0 :: S) μ) : AW G d Y post bc bs pc L (.ref a :: S) μ := by
  subst hq
  intro p l e s m args below meth c H locs cells slots MC MS ls X hl hH hS hc hs
  have kk := kk p l e s m args below meth c H locs cells slots MC MS ls X hl hH hS hc hs
  have hrc := hH.recv X.2.2.2.2.2.2.2.2 hS hm hr
  obtain ⟨x1, x2, x3, x4, x5, hown, x7, hts, hK, hTW, hz, hst⟩ := X
  exact va_instNo x1 x2 hown (hts _ hcl) (hst.2.2.2.2.2.1 _ hno) hrc hdg kk
/-- a static that nobody writes -/
def zGs (own : String) (idx : Nat) (C n dsc : String) : Prop := Cond.fieldLink own idx C n dsc ∈ lw_all ∨ ∃ host, Cond.fieldLinkNest own idx C n dsc host ∈ lw_tbl
theorem aw_getstatic {idx : Nat} {C n dsc : String} {v : Value} (hdg : decode Y.2.1 pc = .ok (.getstatic idx, 3)) (hg : zGs Y.1.cls idx C n dsc) (hz0 : (C, n, dsc, v) ∈ zStL G) (hq : pc + 3 = q) (kk : AW G d Y post bc bs q L (v :: S) μ) : AW G d Y post bc bs pc L S μ := by
  subst hq
  intro p l e s m args below meth c H locs cells slots MC MS ls X hl hH hS hc hs
  have kk := kk p l e s m args below meth c H locs cells slots MC MS ls X hl hH hS hc hs
  obtain ⟨x1, x2, x3, x4, x5, hown, x7, hts, hK, hTW, hz, hst⟩ := X
  rcases hg with h | ⟨host, h⟩
  · exact va_gets x1 x2 (hst.1 _ hz0) hS hown (hts _ h) (fun x h => h) hdg kk
  · exact va_getsN x1 x2 (hst.1 _ hz0) hS hown (va_Nw.use rfl (hTW _ (zTbl_of h rfl))) (fun x h => h) hdg kk
/-- the constant arrays -/
theorem aw_greatld {i v : Int32} (k : Nat) (hdg : decode Y.2.1 pc = .ok (.iaload, 1)) (hi : i = nI k) (hk : k < 6) (hv : zGreat k = .int v) (hq : pc + 1 = q) (kk : AW G d Y post bc bs q L (.int v :: S) μ) : AW G d Y post bc bs pc L (.int i :: .ref (G.2.2.2 2) :: S) μ := by
  subst hq
  intro p l e s m args below meth c H locs cells slots MC MS ls X hl hH hS hc hs
  have kk := kk p l e s m args below meth c H locs cells slots MC MS ls X hl hH hS hc hs
  obtain ⟨x1, x2, x3, x4, x5, hown, x7, hts, hK, hTW, hz, hst⟩ := X
  exact va_ti x1 x2 hst.2.1 hS (zin hi hk (by decide)) (by rw [zcl hi hk (by decide)]; exact hv) hdg kk
theorem aw_greatlen (hdg : decode Y.2.1 pc = .ok (.arraylength, 1)) (hq : pc + 1 = q) (kk : AW G d Y post bc bs q L (.int 6 :: S) μ) : AW G d Y post bc bs pc L (.ref (G.2.2.2 2) :: S) μ := by
  subst hq
  intro p l e s m args below meth c H locs cells slots MC MS ls X hl hH hS hc hs
  have kk := kk p l e s m args below meth c H locs cells slots MC MS ls X hl hH hS hc hs
  obtain ⟨x1, x2, x3, x4, x5, hown, x7, hts, hK, hTW, hz, hst⟩ := X
  exact va_tlen x1 x2 hst.2.1 hS rfl hdg kk
theorem aw_cacheld {i : Int32} (k : Nat) (hdg : decode Y.2.1 pc = .ok (.aaload, 1)) (hi : i = nI k) (hk : k < 256) (hq : pc + 1 = q) (kk : AW G d Y post bc bs q L (.ref (G.2.2.2 (100 + k)) :: S) μ) : AW G d Y post bc bs pc L (.int i :: .ref (G.2.2.2 3) :: S) μ := by
  subst hq
  intro p l e s m args below meth c H locs cells slots MC MS ls X hl hH hS hc hs
  have kk := kk p l e s m args below meth c H locs cells slots MC MS ls X hl hH hS hc hs
  obtain ⟨x1, x2, x3, x4, x5, hown, x7, hts, hK, hTW, hz, hst⟩ := X
  exact vb_tq x1 x2 hst.2.2.1 hS (zin hi hk (by decide)) (by rw [zcl hi hk (by decide)]) hdg kk
theorem aw_emptylen (hdg : decode Y.2.1 pc = .ok (.arraylength, 1)) (hq : pc + 1 = q) (kk : AW G d Y post bc bs q L (.int 0 :: S) μ) : AW G d Y post bc bs pc L (.ref (G.2.2.2 0) :: S) μ := by
  subst hq
  intro p l e s m args below meth c H locs cells slots MC MS ls X hl hH hS hc hs
  have kk := kk p l e s m args below meth c H locs cells slots MC MS ls X hl hH hS hc hs
  obtain ⟨x1, x2, x3, x4, x5, hown, x7, hts, hK, hTW, hz, hst⟩ := X
  exact va_tlen x1 x2 hst.2.2.2.1 hS rfl hdg kk
/-- the empty elementData isn't a cell of ours -/
theorem aw_low {a : Nat} {t : zT} {e : va_E} (hm : μ a = some (t, e)) (ht : t ≠ zC) (kk : (∀ c, c < G.2.2.1 → a ≠ c) → AW G d Y post bc bs pc L S μ) : AW G d Y post bc bs pc L S μ := by
  intro p l e s m args below meth c H locs cells slots MC MS ls X hl hH hS hc hs
  obtain ⟨ws, k0, hP, hw, hk0⟩ := hH.mut hm ht
  have hA : G.2.2.1 ≤ a := hw.1.2 k0 _ hk0
  exact kk (fun c h => by omega) p l e s m args below meth c H locs cells slots MC MS ls X hl hH hS hc hs
end ZHA
section ZMM
variable {G : zG} {d : Nat} {Y : zMI} {post : Option Value → zM → Prop} {bc bs pc q : Nat} {L : List (Nat × Value)} {S : List Value} {μ : zM}
def zMin (own : String) (idx : Nat) : Prop := Cond.methodLink own idx Lib.Math.min.name ∈ lw_all ∧ Cond.static Lib.Math.min.name ∈ lw_all ∧ Cond.initialized "java/lang/Math" ∈ lw_all ∧ Cond.code Lib.Math.min.name Lib.Math.min.code 2 (some .int) ∈ lw_all
theorem aw_min {idx : Nat} {x y : Int32} (hdg : decode Y.2.1 pc = .ok (.invokestatic idx, 3)) (hs0 : zMin Y.1.cls idx) (hd : 1 ≤ d) (hcat : (S.map fun v => v.category).sum ≤ 8) (hq : pc + 3 = q) (kk : AW G d Y post bc bs q L (.int (if y < x then y else x) :: S) μ) : AW G d Y post bc bs pc L (.int y :: .int x :: S) μ := by
  subst hq
  intro p l e s m args below meth c H locs cells slots MC MS ls X hl hH hS hc hs
  have kk := kk p l e s m args below meth c H locs cells slots MC MS ls X hl hH hS hc hs
  obtain ⟨x1, x2, x3, x4, x5, hown, x7, hts, hws⟩ := X
  exact va_mmin x1 x2 (x5.trans hl.1.symm) hown (hts _ hs0.1) (hts _ hs0.2.1) (hts _ hs0.2.2.1) (hts _ hs0.2.2.2) (show 1 ≤ d from hd) (show _ ≤ 40 * d by omega) (show cells ≤ MC by omega) (show slots ≤ MS by omega) hdg kk
def zMax (own : String) (idx : Nat) : Prop := Cond.methodLink own idx Lib.Math.max.name ∈ lw_all ∧ Cond.static Lib.Math.max.name ∈ lw_all ∧ Cond.initialized "java/lang/Math" ∈ lw_all ∧ Cond.code Lib.Math.max.name Lib.Math.max.code 2 (some .int) ∈ lw_all
theorem aw_max {idx : Nat} {x y : Int32} (hdg : decode Y.2.1 pc = .ok (.invokestatic idx, 3)) (hs0 : zMax Y.1.cls idx) (hd : 1 ≤ d) (hcat : (S.map fun v => v.category).sum ≤ 8) (hq : pc + 3 = q) (kk : AW G d Y post bc bs q L (.int (if x < y then y else x) :: S) μ) : AW G d Y post bc bs pc L (.int y :: .int x :: S) μ := by
  subst hq
  intro p l e s m args below meth c H locs cells slots MC MS ls X hl hH hS hc hs
  have kk := kk p l e s m args below meth c H locs cells slots MC MS ls X hl hH hS hc hs
  obtain ⟨x1, x2, x3, x4, x5, hown, x7, hts, hws⟩ := X
  exact va_mmax x1 x2 (x5.trans hl.1.symm) hown (hts _ hs0.1) (hts _ hs0.2.1) (hts _ hs0.2.2.1) (hts _ hs0.2.2.2) (show 1 ≤ d from hd) (show _ ≤ 40 * d by omega) (show cells ≤ MC by omega) (show slots ≤ MS by omega) hdg kk
end ZMM
