/-! ROWS of calls, natives, floats -/
set_option maxRecDepth 100000
section ZC0
variable {p : Program} {l : Launch} {e : Env} {R : Room} {s : State} {m : MethodId} {args : Array Value} {below : List Frame} {meth : Method} {c : Code} {H H0 : Heap} {locs : List Loc} {cells slots mc ms : Nat} {Q : State → Prop}
variable {G : zG} {pc : Nat} {ls : Array Slot} {rest st0 : List Value} {a : Array Value} {post : Option Value → zM → Prop}
theorem zrun3 (hr : va_Run p l e R s m args below meth c H locs cells slots mc ms (F0 m pc ls st0) rest (zQ G post a) (zA G)) (hS : va_S (zA G) H0 H locs)
    (kk : ∀ (v : Option Value) (μ' : zM) (H1 : Heap) (locs1 : List Loc), post v μ' → zHp G μ' H1 → va_S (zA G) H0 H1 locs1 → W p l e R s m args below meth c H1 locs1 (cells + mc) (slots + ms) Q (F0 m (pc + 3) ls (v.toList ++ rest))) : W p l e R s m args below meth c H locs cells slots Q (F0 m pc ls st0) := by
  intro T hT X
  obtain ⟨v, st₀, t, T', L, h0, X', hL, e1, e2, ⟨⟨v', μ', hv, hp, hb⟩, hz, hk⟩, st⟩ := hr T hT X
  cases hv
  rw [h0] at hz hk
  obtain ⟨t2, a1, b1⟩ := kk v μ' T'.heap (locs ++ L) hp (by rw [e1]; exact hb)
    ⟨Nat.le_trans hS.1 (by rw [e1]; exact hz), fun q h1 h2 => by rw [e1, hk q (Nat.lt_of_lt_of_le h1 hS.1) h2]; exact hS.2.1 q h1 h2, fun q hq => by
      rcases List.mem_append.mp hq with h | h
      · exact hS.2.2 q h
      · exact hL q h⟩ T' rfl X'
  exact ⟨t2, st t2 a1, b1⟩
theorem zrun5 (hr : va_Run5 p l e R s m args below meth c H locs cells slots mc ms (F0 m pc ls st0) rest (zQ G post a) (zA G)) (hS : va_S (zA G) H0 H locs)
    (kk : ∀ (v : Option Value) (μ' : zM) (H1 : Heap) (locs1 : List Loc), post v μ' → zHp G μ' H1 → va_S (zA G) H0 H1 locs1 → W p l e R s m args below meth c H1 locs1 (cells + mc) (slots + ms) Q (F0 m (pc + 5) ls (v.toList ++ rest))) : W p l e R s m args below meth c H locs cells slots Q (F0 m pc ls st0) := by
  intro T hT X
  obtain ⟨v, st₀, t, T', L, h0, X', hL, e1, e2, ⟨⟨v', μ', hv, hp, hb⟩, hz, hk⟩, st⟩ := hr T hT X
  cases hv
  rw [h0] at hz hk
  obtain ⟨t2, a1, b1⟩ := kk v μ' T'.heap (locs ++ L) hp (by rw [e1]; exact hb)
    ⟨Nat.le_trans hS.1 (by rw [e1]; exact hz), fun q h1 h2 => by rw [e1, hk q (Nat.lt_of_lt_of_le h1 hS.1) h2]; exact hS.2.1 q h1 h2, fun q hq => by
      rcases List.mem_append.mp hq with h | h
      · exact hS.2.2 q h
      · exact hL q h⟩ T' rfl X'
  exact ⟨t2, st t2 a1, b1⟩
end ZC0
abbrev zMH (y : MethodName) (n : Nat) : Prop := y.cls ≠ "java/lang/invoke/MethodHandle" ∧ y.cls ≠ "java/lang/invoke/VarHandle" ∧ (parseMethodDescriptor y.desc).map (fun d => d.parameters.length) = some n
abbrev zws (Y : zMI) : List Cond := ws_ Y.1 Y.2.1 Y.2.2.1 Y.2.2.2
/-- call facts of the tables: virtual; static; constructor; inherited or overriding; super; interface -/
def zCV (own : String) (idx ci : Nat) (Y : zMI) (n : Nat) : Prop := ∃ r : vw_C, zCl[ci]? = some r ∧ GoodIn lw_all (wsV own idx r.1 Y.1 (zws Y)) ∧ Y.1.cls = r.1 ∧ zMH Y.1 n
def zCS (own : String) (idx : Nat) (Y : zMI) (n : Nat) : Prop := GoodIn lw_all (va_wsS own idx Y.1 (zws Y)) ∧ zMH Y.1 n
def zCI (own : String) (idx : Nat) (Y : zMI) (n : Nat) : Prop := GoodIn lw_all (zws Y) ∧ Cond.initialized Y.1.cls ∈ lw_all ∧ Cond.methodLink own idx Y.1 ∈ lw_all ∧ Cond.instanceMethod Y.1 ∈ lw_all ∧ Y.1.name = "<init>" ∧ Y.2.2.2 = none ∧ zMH Y.1 n
def zCU (own : String) (idx ci : Nat) (Y : zMI) (n : Nat) : Prop := ∃ (r : vw_C) (owner : String) (x : MethodName), zCl[ci]? = some r ∧ GoodIn lw_all (va_wsU own idx r.1 owner x Y.1 (zws Y)) ∧ owner ≠ "java/lang/invoke/MethodHandle" ∧ owner ≠ "java/lang/invoke/VarHandle" ∧ (parseMethodDescriptor x.desc).map (fun d => d.parameters.length) = some n ∧
  (Y.1 = ⟨owner, x.name, x.desc⟩ ∨ (Cond.declares ⟨owner, x.name, x.desc⟩ ∈ lw_tbl) ∨ (Cond.instanceMethod ⟨owner, x.name, x.desc⟩ ∈ lw_all ∧ ∃ (b0 : ByteArray) (m0 : Nat) (r0 : Option FieldType), Cond.code ⟨owner, x.name, x.desc⟩ b0 m0 r0 ∈ lw_all))
def zCSU (own : String) (idx : Nat) (Y : zMI) (n : Nat) : Prop := GoodIn lw_all (va_wsSU own idx Y.1 (zws Y)) ∧ Y.1.name ≠ "<init>" ∧ (parseMethodDescriptor Y.1.desc).map (fun d => d.parameters.length) = some n
def zCF (own : String) (idx ci : Nat) (Y : zMI) (n : Nat) : Prop := ∃ (r : vw_C) (x : MethodName), zCl[ci]? = some r ∧ GoodIn lw_all (va_wsF own idx r.1 x Y.1 (zws Y)) ∧ zMH x n ∧ Cond.declares x ∈ lw_tbl ∧ (Cond.interfaceMethod x.cls x.cls x.name x.desc ∈ lw_tbl ∧ zKeepW (Cond.interfaceMethod x.cls x.cls x.name x.desc) = true) ∧ Cond.publicMethod Y.1 ∈ lw_tbl ∧ Cond.unhidden r.1 x.name x.desc ∈ lw_tbl ∧ Cond.castable r.1 x.cls ∈ lw_tbl
section ZCR
variable {G : zG} {d d' : Nat} {Y Y' : zMI} {post post' : Option Value → zM → Prop} {bc bs mc ms pc q n idx ci b : Nat} {L : List (Nat × Value)} {S rest As : List Value} {μ : zM} {t : zT} {fs : List Value}
theorem zPre_at {s : State} {H : Heap} {locs : List Loc} {as : List Value} (hws : zWs G s) (hH : zHp G μ H) (hS : va_S (zA G) s.heap H locs) : ∀ U : State, U.heap = H → s.WarmedH U.vm → zPre G as μ as.toArray U := by
  intro U hU hW
  exact ⟨rfl, hws.moved hW (by rw [hU]; exact hS.1) (fun a h1 h2 => by rw [hU]; exact hS.2.1 a h1 h2), by rw [hU]; exact hH⟩
theorem aw_callV (hdg : decode Y.2.1 pc = .ok (.invokevirtual idx, 3)) (hC : Meets G d' Y' (.ref b :: As) μ post' mc ms) (hs0 : zCV Y.1.cls idx ci Y' n) (hm : μ b = some (t, .inr (ci, fs))) (hS0 : S = As.reverse ++ .ref b :: rest) (hn : As.length = n) (hd : d' + 1 ≤ d) (hL : Y'.2.2.1 ≤ 21) (hcat : (rest.map fun v => v.category).sum ≤ 8) (hq : pc + 3 = q)
    (kk : ∀ (v : Option Value) (μ' : zM), post' v μ' → AW G d Y post bc bs q L (v.toList ++ rest) μ') : AW G d Y post (bc + mc) (bs + ms) pc L S μ := by
  subst hq; subst hS0
  intro p l e s m args below meth c H locs cells slots MC MS ls X hl hH hS hc hs
  have kk := fun v μ' H1 locs1 hp hH1 hS1 => kk v μ' hp p l e s m args below meth c H1 locs1 (cells + mc) (slots + ms) MC MS ls X hl hH1 hS1 (by omega) (by omega)
  obtain ⟨r, f1, f2, f3, f4⟩ := hs0
  have hrc := hH.recv X.2.2.2.2.2.2.2.2 hS hm f1
  have hpre := zPre_at (as := .ref b :: As) X.2.2.2.2.2.2.2.2 hH hS
  obtain ⟨x1, x2, x3, x4, x5, hown, x7, hts, hws⟩ := X
  refine zrun3 (H0 := s.heap) (va_runV (As := As) (rest := rest) (b := b) (C := r.1) ⟨x1, x2, x5, hown, hts⟩ (hC l) (cwV n hts f2 rfl rfl rfl ⟨f3, f4⟩ ⟨hd, ?_⟩) ⟨zPre.blind, hrc, hpre⟩ rfl hn hl.1 rfl (lv_room hcat) hdg ⟨?_, ?_⟩) hS kk
  · show 8 + (Y'.2.2.1 + 11) + 40 * d' ≤ 40 * d
    omega
  · show cells + mc ≤ MC
    omega
  · show slots + ms ≤ MS
    omega
theorem aw_callS (hdg : decode Y.2.1 pc = .ok (.invokestatic idx, 3)) (hC : Meets G d' Y' As μ post' mc ms) (hs0 : zCS Y.1.cls idx Y' n) (hS0 : S = As.reverse ++ rest) (hn : As.length = n) (hd : d' + 1 ≤ d) (hL : Y'.2.2.1 ≤ 21) (hcat : (rest.map fun v => v.category).sum ≤ 8) (hq : pc + 3 = q)
    (kk : ∀ (v : Option Value) (μ' : zM), post' v μ' → AW G d Y post bc bs q L (v.toList ++ rest) μ') : AW G d Y post (bc + mc) (bs + ms) pc L S μ := by
  subst hq; subst hS0
  intro p l e s m args below meth c H locs cells slots MC MS ls X hl hH hS hc hs
  have kk := fun v μ' H1 locs1 hp hH1 hS1 => kk v μ' hp p l e s m args below meth c H1 locs1 (cells + mc) (slots + ms) MC MS ls X hl hH1 hS1 (by omega) (by omega)
  obtain ⟨f2, f4⟩ := hs0
  have hpre := zPre_at (as := As) X.2.2.2.2.2.2.2.2 hH hS
  obtain ⟨x1, x2, x3, x4, x5, hown, x7, hts, hws⟩ := X
  refine zrun3 (H0 := s.heap) (va_runS (As := As) (rest := rest) ⟨x1, x2, x5, hown, hts⟩ (hC l) (va_cwS n hts f2 rfl rfl rfl f4 ⟨hd, ?_⟩) ⟨zPre.blind, hpre⟩ rfl hn hl.1 rfl (lv_room hcat) hdg ⟨?_, ?_⟩) hS kk
  · show 8 + (Y'.2.2.1 + 11) + 40 * d' ≤ 40 * d
    omega
  · show cells + mc ≤ MC
    omega
  · show slots + ms ≤ MS
    omega
theorem aw_callI (hdg : decode Y.2.1 pc = .ok (.invokespecial idx, 3)) (hC : Meets G d' Y' (.ref b :: As) μ post' mc ms) (hs0 : zCI Y.1.cls idx Y' n) (hS0 : S = As.reverse ++ .ref b :: rest) (hn : As.length = n) (hd : d' + 1 ≤ d) (hL : Y'.2.2.1 ≤ 21) (hcat : (rest.map fun v => v.category).sum ≤ 8) (hq : pc + 3 = q)
    (kk : ∀ (v : Option Value) (μ' : zM), post' v μ' → AW G d Y post bc bs q L (v.toList ++ rest) μ') : AW G d Y post (bc + mc) (bs + ms) pc L S μ := by
  subst hq; subst hS0
  intro p l e s m args below meth c H locs cells slots MC MS ls X hl hH hS hc hs
  have kk := fun v μ' H1 locs1 hp hH1 hS1 => kk v μ' hp p l e s m args below meth c H1 locs1 (cells + mc) (slots + ms) MC MS ls X hl hH1 hS1 (by omega) (by omega)
  obtain ⟨f1, f2, f3, f4, f5, f6, f7⟩ := hs0
  have hpre := zPre_at (as := .ref b :: As) X.2.2.2.2.2.2.2.2 hH hS
  obtain ⟨x1, x2, x3, x4, x5, hown, x7, hts, hws⟩ := X
  have hC := hC l
  have f1 : GoodIn lw_all (ws_ Y'.1 Y'.2.1 Y'.2.2.1 Y'.2.2.2) := f1
  rw [f6] at hC f1
  refine zrun3 (H0 := s.heap) (va_runI (As := As) (rest := rest) (b := b) ⟨x1, x2, x5, hown, hts⟩ hC (cwI n hts f1 rfl rfl rfl (hts _ f2) (hts _ f3) (hts _ f4) f5 f7 ⟨hd, ?_⟩) ⟨zPre.blind, hpre⟩ rfl hn hl.1 rfl (lv_room hcat) hdg ⟨?_, ?_⟩) hS kk
  · show 8 + (Y'.2.2.1 + 11) + 40 * d' ≤ 40 * d
    omega
  · show cells + mc ≤ MC
    omega
  · show slots + ms ≤ MS
    omega
theorem aw_callU (hdg : decode Y.2.1 pc = .ok (.invokevirtual idx, 3)) (hC : Meets G d' Y' (.ref b :: As) μ post' mc ms) (hs0 : zCU Y.1.cls idx ci Y' n) (hm : μ b = some (t, .inr (ci, fs))) (hS0 : S = As.reverse ++ .ref b :: rest) (hn : As.length = n) (hd : d' + 1 ≤ d) (hL : Y'.2.2.1 ≤ 21) (hcat : (rest.map fun v => v.category).sum ≤ 8) (hq : pc + 3 = q)
    (kk : ∀ (v : Option Value) (μ' : zM), post' v μ' → AW G d Y post bc bs q L (v.toList ++ rest) μ') : AW G d Y post (bc + mc) (bs + ms) pc L S μ := by
  subst hq; subst hS0
  intro p l e s m args below meth c H locs cells slots MC MS ls X hl hH hS hc hs
  have kk := fun v μ' H1 locs1 hp hH1 hS1 => kk v μ' hp p l e s m args below meth c H1 locs1 (cells + mc) (slots + ms) MC MS ls X hl hH1 hS1 (by omega) (by omega)
  obtain ⟨r, owner, x, f1, f2, f3, f4, f5, f6⟩ := hs0
  have hrc := hH.recv X.2.2.2.2.2.2.2.2 hS hm f1
  have hpre := zPre_at (as := .ref b :: As) X.2.2.2.2.2.2.2.2 hH hS
  obtain ⟨x1, x2, x3, x4, x5, hown, x7, hts, hws⟩ := X
  have hR : (zR d' mc ms).frames + 1 ≤ (zR d MC MS).frames ∧ 8 + (Y'.2.2.1 + 11) + (zR d' mc ms).locals ≤ (zR d MC MS).locals := ⟨hd, by show 8 + (Y'.2.2.1 + 11) + 40 * d' ≤ 40 * d; omega⟩
  have cw : va_CU (zR d MC MS) s args Y.1.cls r.1 owner idx x Y'.1 Y'.2.1 Y'.2.2.1 Y'.2.2.2 (zws Y') (zR d' mc ms) mc ms n := by
    rcases f6 with g | g | ⟨g1, b0, m0, r0, g2⟩
    · exact va_cwU n hts f2 rfl rfl rfl g ⟨f3, f4, f5⟩ hR
    · exact va_cwA n hts f2 rfl rfl rfl (hws.2.1 _ (zTbl_of g rfl)) ⟨f3, f4, f5⟩ hR
    · refine va_cwO n hts (fun w hw => ?_) rfl rfl rfl g2 ⟨f3, f4, f5⟩ hR
      have hw : w ∈ ([.methodLink Y.1.cls idx x, .sameMethod x.cls owner x.name x.desc, .instanceMethod ⟨owner, x.name, x.desc⟩, .selects r.1 x Y'.1, .instanceMethod Y'.1, .initialized Y'.1.cls] : List Cond) ++ zws Y' := hw
      rcases List.mem_append.mp hw with h | h
      · have key : w = .instanceMethod ⟨owner, x.name, x.desc⟩ ∨ w ∈ ([.methodLink Y.1.cls idx x, .sameMethod x.cls owner x.name x.desc, .selects r.1 x Y'.1, .instanceMethod Y'.1, .initialized Y'.1.cls] : List Cond) := by
          simp only [List.mem_cons, List.not_mem_nil, or_false] at h ⊢
          rcases h with h | h | h | h | h | h <;> simp [h]
        rcases key with h | h
        · exact ⟨h ▸ g1, good_of_word (by rw [h]; rfl)⟩
        · exact f2 w (by unfold va_wsU; exact List.mem_append_left _ h)
      · exact f2 w (by unfold va_wsU; exact List.mem_append_right _ h)
  refine zrun3 (H0 := s.heap) (va_runU (As := As) (rest := rest) (b := b) (C := r.1) ⟨x1, x2, x5, hown, hts⟩ (hC l) cw ⟨zPre.blind, hrc, hpre⟩ rfl hn hl.1 rfl (lv_room hcat) hdg ⟨?_, ?_⟩) hS kk
  · show cells + mc ≤ MC
    omega
  · show slots + ms ≤ MS
    omega
theorem aw_callSU (hdg : decode Y.2.1 pc = .ok (.invokespecial idx, 3)) (hC : Meets G d' Y' (.ref b :: As) μ post' mc ms) (hs0 : zCSU Y.1.cls idx Y' n) (hm : μ b = some (t, .inr (ci, fs))) (hci : ∃ r, zCl[ci]? = some r) (hS0 : S = As.reverse ++ .ref b :: rest) (hn : As.length = n) (hd : d' + 1 ≤ d) (hL : Y'.2.2.1 ≤ 21) (hcat : (rest.map fun v => v.category).sum ≤ 8) (hq : pc + 3 = q)
    (kk : ∀ (v : Option Value) (μ' : zM), post' v μ' → AW G d Y post bc bs q L (v.toList ++ rest) μ') : AW G d Y post (bc + mc) (bs + ms) pc L S μ := by
  subst hq; subst hS0
  intro p l e s m args below meth c H locs cells slots MC MS ls X hl hH hS hc hs
  have kk := fun v μ' H1 locs1 hp hH1 hS1 => kk v μ' hp p l e s m args below meth c H1 locs1 (cells + mc) (slots + ms) MC MS ls X hl hH1 hS1 (by omega) (by omega)
  obtain ⟨r, hr⟩ := hci
  have hrc := hH.recv X.2.2.2.2.2.2.2.2 hS hm hr
  have hpre := zPre_at (as := .ref b :: As) X.2.2.2.2.2.2.2.2 hH hS
  obtain ⟨f2, f3, f4⟩ := hs0
  obtain ⟨x1, x2, x3, x4, x5, hown, x7, hts, hws⟩ := X
  refine zrun3 (H0 := s.heap) (va_runSU (As := As) (rest := rest) (b := b) (hws.1.1 ci r hr).2 ⟨x1, x2, x5, hown, hts⟩ (hC l) (va_cwSU n hts f2 rfl rfl rfl ⟨f3, f4⟩ ⟨hd, ?_⟩) ⟨zPre.blind, hrc, hpre⟩ rfl hn hl.1 rfl (lv_room hcat) hdg ⟨?_, ?_⟩) hS kk
  · show 8 + (Y'.2.2.1 + 11) + 40 * d' ≤ 40 * d
    omega
  · show cells + mc ≤ MC
    omega
  · show slots + ms ≤ MS
    omega
theorem aw_callF {cnt : Nat} (hdg : decode Y.2.1 pc = .ok (.invokeinterface idx cnt, 5)) (hC : Meets G d' Y' (.ref b :: As) μ post' mc ms) (hs0 : zCF Y.1.cls idx ci Y' n) (hm : μ b = some (t, .inr (ci, fs))) (hS0 : S = As.reverse ++ .ref b :: rest) (hn : As.length = n) (hd : d' + 1 ≤ d) (hL : Y'.2.2.1 ≤ 21) (hcat : (rest.map fun v => v.category).sum ≤ 8) (hq : pc + 5 = q)
    (kk : ∀ (v : Option Value) (μ' : zM), post' v μ' → AW G d Y post bc bs q L (v.toList ++ rest) μ') : AW G d Y post (bc + mc) (bs + ms) pc L S μ := by
  subst hq; subst hS0
  intro p l e s m args below meth c H locs cells slots MC MS ls X hl hH hS hc hs
  have kk := fun v μ' H1 locs1 hp hH1 hS1 => kk v μ' hp p l e s m args below meth c H1 locs1 (cells + mc) (slots + ms) MC MS ls X hl hH1 hS1 (by omega) (by omega)
  obtain ⟨r, x, f1, f2, f3, f4, f5, f6, f7, f8⟩ := hs0
  have hrc := hH.recv X.2.2.2.2.2.2.2.2 hS hm f1
  have hpre := zPre_at (as := .ref b :: As) X.2.2.2.2.2.2.2.2 hH hS
  obtain ⟨x1, x2, x3, x4, x5, hown, x7, hts, hws⟩ := X
  have hF : va_Fw r.1 x Y'.1 s := va_Fw.of (A := #[]) (hws.2.1 _ (zTbl_of f4 rfl)) (hws.2.1 _ (zTbl_of f5.1 f5.2)) (hws.2.1 _ (zTbl_of f6 rfl)) (hws.2.1 _ (zTbl_of f7 rfl)) (hws.2.1 _ (zTbl_of f8 rfl))
  refine zrun5 (H0 := s.heap) (va_runF (As := As) (rest := rest) (b := b) (C := r.1) (hws.1.1 ci r f1).2 ⟨x1, x2, x5, hown, hts⟩ (hC l) (va_cwF n hts f2 rfl rfl rfl hF f3 ⟨hd, ?_⟩) ⟨zPre.blind, hrc, hpre⟩ rfl hn hl.1 rfl (lv_room hcat) hdg ⟨?_, ?_⟩) hS kk
  · show 8 + (Y'.2.2.1 + 11) + 40 * d' ≤ 40 * d
    omega
  · show cells + mc ≤ MC
    omega
  · show slots + ms ≤ MS
    omega
/-- System.arraycopy, of whole numbers and of references -/
theorem zarr_two {H : Heap} {a a0 : Nat} {t t0 : zT} {e0 e1 : ClassId × vp_A} (hH : zHp G μ H) (h0 : μ a0 = some (t0, .inl e0)) (h1 : μ a = some (t, .inl e1)) (ht : t ≠ zC) : ∃ (ws : va_W) (k0 k1 : Nat), va_P G.1 zCl ws H ∧ zHw G μ ws ∧ ws[k0]? = some (a0, .inl e0) ∧ ws[k1]? = some (a, .inl e1) := by
  obtain ⟨ws, hP, hw⟩ := hH
  rcases hw.2.1 a0 t0 _ h0 with ⟨-, g⟩ | ⟨-, k0, hk0⟩
  · rcases g with ⟨_, _, _, g⟩ | ⟨_, g⟩ <;> cases g
  · rcases hw.2.1 a t _ h1 with ⟨g, -⟩ | ⟨-, k1, hk1⟩
    · exact absurd g ht
    · exact ⟨ws, k0, k1, hP, hw, hk0, hk1⟩
def zCopy (own : String) (idx : Nat) : Prop := Cond.methodLink own idx arraycopyName ∈ lw_all ∧ Cond.native arraycopyName ∈ lw_all ∧ Cond.static arraycopyName ∈ lw_all ∧ Cond.initialized "java/lang/System" ∈ lw_all
theorem zCopy_w : nativeFrameWords "java/lang/System" "arraycopy" 5 + 11 ≤ 32 := by decide +kernel
theorem aw_copyX {j a a0 n0 n1 sp dp n : Nat} {ty : FieldType} {f g : Nat → Int32} {t t0 : zT} {x y z : Int32} (hdg : decode Y.2.1 pc = .ok (.invokestatic idx, 3)) (hs0 : zCopy Y.1.cls idx) (hj : (zTys G)[j]? = some (G.2.1 j, ty)) (hp : refKind ty = false) (h0 : μ a0 = some (t0, .inl (G.2.1 j, n0, .inl f))) (h1 : μ a = some (t, .inl (G.2.1 j, n1, .inl g))) (ht : t ≠ zC)
    (hx : x = nI sp) (hy : y = nI dp) (hz0 : z = nI n) (h4 : sp + n ≤ n0) (h5 : dp + n ≤ n1) (hb0 : n0 < 2 ^ 31) (hb1 : n1 < 2 ^ 31) (hfit : ∀ i, i < n → fits ty (.int (f (sp + i))) = true) (hd : 1 ≤ d) (hcat : (rest.map fun v => v.category).sum ≤ 8) (hq : pc + 3 = q) (kk : ∀ μ', μ' = updM μ a (t, .inl (G.2.1 j, n1, .inl (va_cpy f g sp dp n))) → AW G d Y post bc bs q L rest μ') : AW G d Y post bc bs pc L (.int z :: .int y :: .ref a :: .int x :: .ref a0 :: rest) μ := by
  subst hq; subst hx; subst hy; subst hz0
  intro p l e s m args below meth c H locs cells slots MC MS ls X hl hH hS hc hs
  have kk := fun H1 locs1 hH1 hS1 => kk _ rfl p l e s m args below meth c H1 locs1 cells slots MC MS ls X hl hH1 hS1 hc hs
  obtain ⟨x1, x2, x3, x4, x5, hown, x7, hts, hK, hTW, hz, hst⟩ := X
  obtain ⟨ws, k0, k1, hP, hw, hk0, hk1⟩ := zarr_two hH h0 h1 ht
  have c1 : (nI sp).toNatClampNeg = sp := nI_clamp (by omega)
  have c2 : (nI dp).toNatClampNeg = dp := nI_clamp (by omega)
  have c3 : (nI n).toNatClampNeg = n := nI_clamp (by omega)
  refine va_copyi x1 x2 (x5.trans hl.1.symm) hown (hts _ hs0.1) (hts _ hs0.2.1) (hts _ hs0.2.2.1) (hts _ hs0.2.2.2) hK hP hw.1 hS k0 k1 j j hk0 hk1 hj hj hp (nI_pos (by omega)) (nI_pos (by omega)) (nI_pos (by omega)) (by rw [c1, c3]; exact h4) (by rw [c2, c3]; exact h5) (by rw [c1, c3]; exact hfit) (show 1 ≤ d from hd) ?_ hdg (fun H1 locs1 hP1 hD1 hS1 => ?_)
  · have := zCopy_w
    show _ ≤ 40 * d
    omega
  · rw [c1, c2, c3] at hP1
    exact kk H1 locs1 ⟨_, hP1, hw.set hst.low hk1 ht⟩ hS1
theorem aw_copyq {j a a0 n0 n1 sp dp n : Nat} {E : String} {f g : Nat → Option Nat} {t t0 : zT} {x y z : Int32} (hdg : decode Y.2.1 pc = .ok (.invokestatic idx, 3)) (hs0 : zCopy Y.1.cls idx) (hj : (zTys G)[j]? = some (G.2.1 j, .object E)) (h0 : μ a0 = some (t0, .inl (G.2.1 j, n0, .inr (.inr (.inr (.inr f)))))) (h1 : μ a = some (t, .inl (G.2.1 j, n1, .inr (.inr (.inr (.inr g)))))) (ht : t ≠ zC)
    (hx : x = nI sp) (hy : y = nI dp) (hz0 : z = nI n) (h4 : sp + n ≤ n0) (h5 : dp + n ≤ n1) (hb0 : n0 < 2 ^ 31) (hb1 : n1 < 2 ^ 31) (hel : ∀ i, i < n → ∀ w, f (sp + i) = some w → ∃ (t' : zT) (ci : Nat) (fs : List Value), μ w = some (t', .inr (ci, fs)) ∧ zCast ci E) (hd : 1 ≤ d) (hcat : (rest.map fun v => v.category).sum ≤ 8) (hq : pc + 3 = q) (kk : ∀ μ', μ' = updM μ a (t, .inl (G.2.1 j, n1, .inr (.inr (.inr (.inr (va_cpy f g sp dp n)))))) → AW G d Y post bc bs q L rest μ') : AW G d Y post bc bs pc L (.int z :: .int y :: .ref a :: .int x :: .ref a0 :: rest) μ := by
  subst hq; subst hx; subst hy; subst hz0
  intro p l e s m args below meth c H locs cells slots MC MS ls X hl hH hS hc hs
  have kk := fun H1 locs1 hH1 hS1 => kk _ rfl p l e s m args below meth c H1 locs1 cells slots MC MS ls X hl hH1 hS1 hc hs
  have hel' : ∀ i, i < n → ∀ w, f (sp + i) = some w → va_Any E s H w := fun i hi w hw => by
    obtain ⟨t', ci, fs, h, hc⟩ := hel i hi w hw
    exact hH.any X.2.2.2.2.2.2.2.2 hS h hc
  obtain ⟨x1, x2, x3, x4, x5, hown, x7, hts, hK, hTW, hz, hst⟩ := X
  obtain ⟨ws, k0, k1, hP, hw, hk0, hk1⟩ := zarr_two hH h0 h1 ht
  have c1 : (nI sp).toNatClampNeg = sp := nI_clamp (by omega)
  have c2 : (nI dp).toNatClampNeg = dp := nI_clamp (by omega)
  have c3 : (nI n).toNatClampNeg = n := nI_clamp (by omega)
  refine va_copyM x1 x2 (x5.trans hl.1.symm) hown (hts _ hs0.1) (hts _ hs0.2.1) (hts _ hs0.2.2.1) (hts _ hs0.2.2.2) hK hP hw.1 hS k0 k1 j j hk0 hk1 hj hj (nI_pos (by omega)) (nI_pos (by omega)) (nI_pos (by omega)) (by rw [c1, c3]; exact h4) (by rw [c2, c3]; exact h5) (by rw [c1, c3]; exact hel') (show 1 ≤ d from hd) ?_ hdg (fun H1 locs1 hP1 hD1 hS1 => ?_)
  · have := zCopy_w
    show _ ≤ 40 * d
    omega
  · rw [c1, c2, c3] at hP1
    exact kk H1 locs1 ⟨_, hP1, hw.set hst.low hk1 ht⟩ hS1
/-- floats, doubles -/
theorem aw_i2f {x : Int32} (hdg : decode Y.2.1 pc = .ok (.i2f, 1)) (hq : pc + 1 = q) (kk : AW G d Y post bc bs q L (.float (FP.i2f x) :: S) μ) : AW G d Y post bc bs pc L (.int x :: S) μ := by
  subst hq
  intro p l e s m args below meth c H locs cells slots MC MS ls X hl hH hS hc hs
  exact lv_i2f X.1 X.2.1 hdg (kk p l e s m args below meth c H locs cells slots MC MS ls X hl hH hS hc hs)
end ZCR
