/-! HELP 2: rows of references that are known, class objects -/
set_option maxRecDepth 100000
theorem AW.sub {G : zG} {d : Nat} {Y : zMI} {post : Option Value → zM → Prop} {BC BS bc' bs' pc : Nat} {L : List (Nat × Value)} {S : List Value} {μ : zM} (h1 : bc' ≤ BC) (h2 : bs' ≤ BS) (k : AW G d Y post (BC - bc' + bc') (BS - bs' + bs') pc L S μ) : AW G d Y post BC BS pc L S μ := k.bud (by omega) (by omega)
section ZH2
variable {G : zG} {d : Nat} {Y : zMI} {post : Option Value → zM → Prop} {bc bs pc q : Nat} {L : List (Nat × Value)} {S : List Value} {μ : zM}
theorem aw_areturnR {x : Nat} {rt : FieldType} (hdg : decode Y.2.1 pc = .ok (.areturn, 1)) (hr : Y.2.2.2 = some rt) (hrt : (∃ n, rt = .object n) ∨ ∃ t, rt = .array t) (hp : post (some (.ref x)) μ) : AW G d Y post bc bs pc L [.ref x] μ :=
  aw_areturn (r := some x) hdg hr hrt hp
theorem aw_areturnN {rt : FieldType} (hdg : decode Y.2.1 pc = .ok (.areturn, 1)) (hr : Y.2.2.2 = some rt) (hrt : (∃ n, rt = .object n) ∨ ∃ t, rt = .array t) (hp : post (some .null) μ) : AW G d Y post bc bs pc L [.null] μ :=
  aw_areturn (r := none) hdg hr hrt hp
theorem aw_acmpR_eq {x y : Nat} {off : Int} {tgt : Nat} (hdg : decode Y.2.1 pc = .ok (.if_acmp .eq off, 3)) (ht : (pc : Int) + off = (tgt : Int)) (hq : pc + 3 = q) (kt : x = y → AW G d Y post bc bs tgt L S μ) (kf : ¬ x = y → AW G d Y post bc bs q L S μ) : AW G d Y post bc bs pc L (.ref y :: .ref x :: S) μ :=
  aw_acmp_eq (rx := some x) (ry := some y) hdg ht hq (fun h => kt (Option.some.inj h)) (fun h => kf (fun e => h (congrArg some e)))
theorem aw_acmpR_ne {x y : Nat} {off : Int} {tgt : Nat} (hdg : decode Y.2.1 pc = .ok (.if_acmp .ne off, 3)) (ht : (pc : Int) + off = (tgt : Int)) (hq : pc + 3 = q) (kt : ¬ x = y → AW G d Y post bc bs tgt L S μ) (kf : x = y → AW G d Y post bc bs q L S μ) : AW G d Y post bc bs pc L (.ref y :: .ref x :: S) μ :=
  aw_acmp_ne (rx := some x) (ry := some y) hdg ht hq (fun h => kt (fun e => h (congrArg some e))) (fun h => kf (Option.some.inj h))
theorem aw_acmpRQ_eq {x : Nat} {r : Option Nat} {off : Int} {tgt : Nat} (hdg : decode Y.2.1 pc = .ok (.if_acmp .eq off, 3)) (ht : (pc : Int) + off = (tgt : Int)) (hq : pc + 3 = q) (kt : some x = r → AW G d Y post bc bs tgt L S μ) (kf : ¬ some x = r → AW G d Y post bc bs q L S μ) : AW G d Y post bc bs pc L (va_rf r :: .ref x :: S) μ :=
  aw_acmp_eq (rx := some x) (ry := r) hdg ht hq kt kf
theorem aw_acmpQR_eq {x : Nat} {r : Option Nat} {off : Int} {tgt : Nat} (hdg : decode Y.2.1 pc = .ok (.if_acmp .eq off, 3)) (ht : (pc : Int) + off = (tgt : Int)) (hq : pc + 3 = q) (kt : r = some x → AW G d Y post bc bs tgt L S μ) (kf : ¬ r = some x → AW G d Y post bc bs q L S μ) : AW G d Y post bc bs pc L (.ref x :: va_rf r :: S) μ :=
  aw_acmp_eq (rx := r) (ry := some x) hdg ht hq kt kf
theorem aw_acmpRQ_ne {x : Nat} {r : Option Nat} {off : Int} {tgt : Nat} (hdg : decode Y.2.1 pc = .ok (.if_acmp .ne off, 3)) (ht : (pc : Int) + off = (tgt : Int)) (hq : pc + 3 = q) (kt : ¬ some x = r → AW G d Y post bc bs tgt L S μ) (kf : some x = r → AW G d Y post bc bs q L S μ) : AW G d Y post bc bs pc L (va_rf r :: .ref x :: S) μ :=
  aw_acmp_ne (rx := some x) (ry := r) hdg ht hq kt kf
theorem aw_acmpQR_ne {x : Nat} {r : Option Nat} {off : Int} {tgt : Nat} (hdg : decode Y.2.1 pc = .ok (.if_acmp .ne off, 3)) (ht : (pc : Int) + off = (tgt : Int)) (hq : pc + 3 = q) (kt : ¬ r = some x → AW G d Y post bc bs tgt L S μ) (kf : r = some x → AW G d Y post bc bs q L S μ) : AW G d Y post bc bs pc L (.ref x :: va_rf r :: S) μ :=
  aw_acmp_ne (rx := r) (ry := some x) hdg ht hq kt kf
theorem aw_ldcM {idx : Nat} (hdg : decode Y.2.1 pc = .ok (.ldc idx, 2)) (hcl : Cond.classLink Y.1.cls idx "[Ljava/lang/Object;" ∈ lw_all) (hq : pc + 2 = q) (kk : AW G d Y post bc bs q L (.ref (G.2.2.2 4) :: S) μ) : AW G d Y post bc bs pc L S μ := by
  subst hq
  intro p l e s m args below meth c H locs cells slots MC MS ls X hl hH hS hc hs
  have kk := kk p l e s m args below meth c H locs cells slots MC MS ls X hl hH hS hc hs
  obtain ⟨x1, x2, x3, x4, x5, hown, x7, hts, hK, hTW, hz, hst⟩ := X
  exact va_ldcM x1 x2 hown (hts _ hcl) hst.2.2.2.2.1 hdg kk
def zGC (own : String) (idx : Nat) : Prop := Cond.methodLink own idx ⟨"java/lang/Object", "getClass", "()Ljava/lang/Class;"⟩ ∈ lw_all ∧ Cond.declares ⟨"java/lang/Object", "getClass", "()Ljava/lang/Class;"⟩ ∈ lw_tbl ∧ Cond.selects "[Ljava/lang/Object;" ⟨"java/lang/Object", "getClass", "()Ljava/lang/Class;"⟩ ⟨"java/lang/Object", "getClass", "()Ljava/lang/Class;"⟩ ∈ lw_all ∧ Cond.instanceMethod ⟨"java/lang/Object", "getClass", "()Ljava/lang/Class;"⟩ ∈ lw_all ∧ Cond.native ⟨"java/lang/Object", "getClass", "()Ljava/lang/Class;"⟩ ∈ lw_all
theorem aw_getCO {a n : Nat} {f : Nat → Option Nat} {t : zT} {idx : Nat} (hdg : decode Y.2.1 pc = .ok (.invokevirtual idx, 3)) (hs0 : zGC Y.1.cls idx) (hm : μ a = some (t, aO G n f)) (hd : 1 ≤ d) (hcat : (S.map fun v => v.category).sum ≤ 8) (hq : pc + 3 = q) (kk : AW G d Y post bc bs q L (.ref (G.2.2.2 4) :: S) μ) : AW G d Y post bc bs pc L (.ref a :: S) μ := by
  subst hq
  intro p l e s m args below meth c H locs cells slots MC MS ls X hl hH hS hc hs
  have kk := kk p l e s m args below meth c H locs cells slots MC MS ls X hl hH hS hc hs
  obtain ⟨x1, x2, x3, x4, x5, hown, x7, hts, hK, hTW, hz, hst⟩ := X
  obtain ⟨ws, k0, hP, hw, hk0⟩ := hH.arr hm
  have g : H[a]? = some (vp_cell (G.2.1 3) (n, .inr (.inr (.inr (.inr f))))) := hP k0 _ hk0
  exact va_getC x1 x2 (x5.trans hl.1.symm) hown (hts _ hs0.1) (va_any rfl (hTW _ (zTbl_of hs0.2.1 rfl))) (hts _ hs0.2.2.1) (hts _ hs0.2.2.2.1) (hts _ hs0.2.2.2.2) hst.2.2.2.2.1 ⟨_, g, rfl, va_nmO (hK.2 3 _ rfl).2 (by decide +kernel)⟩ (show 1 ≤ d from hd) (show _ ≤ 40 * d by omega) hdg kk
theorem gc_J14_86 : zGC RJ14 86 := ⟨q474, q2373, q2372, q475, q499⟩
end ZH2
/-- a function of numbers, changed at a place -/
def upN (f : Nat → Nat) (k x : Nat) : Nat → Nat := fun j => if j = k then x else f j
theorem upN_eq {f : Nat → Nat} {k x : Nat} : upN f k x k = x := if_pos rfl
theorem upN_ne {f : Nat → Nat} {k j x : Nat} (h : j ≠ k) : upN f k x j = f j := if_neg h
