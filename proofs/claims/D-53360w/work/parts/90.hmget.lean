/-! HASH MAPS: bins, tables, the map; getNode, get, containsKey -/
set_option maxRecDepth 100000
/-- a node of either kind: its first four fields -/
def zNc (μ : zM) (a : Nat) (t : zT) (h k b : Nat) (nx : Option Nat) : Prop := μ a = some (t, oNd h k b nx) ∨ ∃ pa le ri pv rd, μ a = some (t, oTn h k b nx pa le ri pv rd)
section ZNC
variable {G : zG} {d : Nat} {Y : zMI} {post : Option Value → zM → Prop} {bc bs pc q : Nat} {L : List (Nat × Value)} {S : List Value} {μ : zM}
theorem aw_nd {a idx i h k b : Nat} {f1 f2 : Bool} {y1 y2 : FieldType} {t : zT} {nx : Option Nat} {v : Value} (hdg : decode Y.2.1 pc = .ok (.getfield idx, 3)) (hF : zFd Y.1.cls idx 13 i f1 y1) (hF' : zFd Y.1.cls idx 15 (i + 2) f2 y2) (hm : zNc μ a t h k b nx) (hv : [Value.int (nI h), .ref k, .ref b, va_rf nx][i]? = some v) (hq : pc + 3 = q) (kk : AW G d Y post bc bs q L (v :: S) μ) : AW G d Y post bc bs pc L (.ref a :: S) μ := by
  rcases hm with hm | ⟨pa, le, ri, pv, rd, hm⟩
  · exact aw_getfield hdg hF hm hv hq kk
  · refine aw_getfield hdg hF' hm ?_ hq kk
    rcases (show i = 0 ∨ i = 1 ∨ i = 2 ∨ i = 3 ∨ 4 ≤ i by omega) with rfl | rfl | rfl | rfl | e
    · exact hv
    · exact hv
    · exact hv
    · exact hv
    · rw [List.getElem?_eq_none (by simpa using e)] at hv
      cases hv
end ZNC
/-- the nodes of B are plain -/
def zPn (μ : zM) (R o : Nat) (ν ky vl : Nat → Nat) (nx : Nat → Option Nat) (B : Nat → Prop) : Prop := ∀ h, B h → h < 8192 ∧ μ (ν h) = some (hnT R o h, oNd h (ky h) (vl h) ((nx h).map ν))
abbrev zCap (k : Nat) : Nat := if k ≤ 4 then 8 else if k ≤ 5 then 9 else 10
/-- a bin: f its first node, l its keys in order; cap bounds a plain one -/
def zBin (μ : zM) (R o cap : Nat) (ky vl : Nat → Nat) (tr : Bool) (f : Option Nat) (l : List Nat) : Prop := ∃ (ν : Nat → Nat) (nx : Nat → Option Nat), f = l.head?.map ν ∧ zCh nx l ∧ l.Nodup ∧ (tr = false → zPn μ R o ν ky vl nx (· ∈ l) ∧ l.length ≤ cap) ∧
  (tr = true → ∃ (pa le ri pv : Nat → Option Nat) (rd : Nat → Int32) (a b : Nat → Int), zTn μ R o ν ky vl nx pa le ri pv rd (· ∈ l) ∧ zTree (· ∈ l) zKap pa le ri a b ∧ zPv pv none l)
def zTab (G : zG) (μ : zM) (R o tb n cap : Nat) (ky vl : Nat → Nat) (ft : Nat → Option Nat) (L : Nat → List Nat) (tr : Nat → Bool) : Prop := μ tb = some (hbT R o, aN G n ft) ∧ ∀ i, i < n → zBin μ R o cap ky vl (tr i) (ft i) (L i) ∧ ∀ x, x ∈ L i → x % n = i
/-- the boxes of the values -/
def zVl (G : zG) (val : Nat → Nat) : Nat → Nat := fun h => G.2.2.2 (228 + val h)
/-- the keys -/
def zKy (μ : zM) (ky : Nat → Nat) (ks : List Nat) : Prop := ∀ h, h ∈ ks → μ (ky h) = some ((0, 0), oTime (nI (h / 6)) (nI (h % 6)))
abbrev oHM (tb es : Option Nat) (sz : Nat) (mc : Int32) (thr : Nat) : va_E := .inr (19, [.null, .null, va_rf tb, va_rf es, .int (nI sz), .int mc, .int (nI thr), .float 1061158912])
/-- a map with a table of 2^k: what is in it -/
def zHMc (G : zG) (μ : zM) (R o tb k cap : Nat) (pl : Bool) (ks : List Nat) (val : Nat → Nat) : Prop := ∃ (ky : Nat → Nat) (ft : Nat → Option Nat) (L : Nat → List Nat) (tr : Nat → Bool), ks.Nodup ∧ zKy μ ky ks ∧ zTab G μ R o tb (2 ^ k) cap ky (zVl G val) ft L tr ∧ (∀ x, x ∈ ks ↔ x ∈ L (x % 2 ^ k)) ∧ (pl = true → ∀ i, i < 2 ^ k → tr i = false) ∧ 1 ≤ k ∧ k ≤ 8
/-- .. the map's own cell too -/
def zHMt (G : zG) (μ : zM) (R o m tb k cap : Nat) (es : Option Nat) (mc : Int32) (sz : Nat) (pl : Bool) (ks : List Nat) (val : Nat → Nat) : Prop := μ m = some (hmT R o, oHM (some tb) es sz mc (3 * 2 ^ k / 4)) ∧ zHMc G μ R o tb k cap pl ks val
/-- a map without a table -/
def zHM0 (μ : zM) (R o m : Nat) (es : Option Nat) (mc : Int32) (thr : Nat) : Prop := μ m = some (hmT R o, oHM none es 0 mc thr) ∧ (thr = 0 ∨ ∃ k, 1 ≤ k ∧ k ≤ 8 ∧ thr = 2 ^ k)
/-- the entry set, once it is made -/
def zEs (μ : zM) (m : Nat) (es : Option Nat) : Prop := ∀ e, es = some e → μ e = some ((0, 0), .inr (16, [.ref m]))
/-- THE MAP: its keys ks, its values val; plain if pl -/
def zHM (G : zG) (μ : zM) (R o m : Nat) (pl : Bool) (ks : List Nat) (val : Nat → Nat) : Prop := (∃ (tb k : Nat) (es : Option Nat) (mc : Int32), zHMt G μ R o m tb k (zCap k) es mc ks.length pl ks val ∧ ks.length ≤ 3 * 2 ^ k / 4 ∧ zEs μ m es) ∨ (ks = [] ∧ ∃ (es : Option Nat) (mc : Int32) (thr : Nat), zHM0 μ R o m es mc thr ∧ zEs μ m es)
/-- the map's tags -/
abbrev zMt (R o : Nat) : Nat → zT → Prop := fun _ u => u.2 = o ∧ R ≤ u.1 ∧ u.1 < R + 8194
theorem zBin.node {μ : zM} {R o cap : Nat} {ky vl : Nat → Nat} {tr : Bool} {f : Option Nat} {l : List Nat} (h : zBin μ R o cap ky vl tr f l) : ∃ (ν : Nat → Nat) (nx : Nat → Option Nat), f = l.head?.map ν ∧ zCh nx l ∧ l.Nodup ∧ ∀ x, x ∈ l → x < 8192 ∧ zNc μ (ν x) (hnT R o x) x (ky x) (vl x) ((nx x).map ν) := by
  obtain ⟨ν, nx, h1, h2, h3, h4, h5⟩ := h
  refine ⟨ν, nx, h1, h2, h3, fun x hx => ?_⟩
  cases tr with
  | false => obtain ⟨g1, g2⟩ := (h4 rfl).1 x hx; exact ⟨g1, Or.inl g2⟩
  | true => obtain ⟨pa, le, ri, pv, rd, a, b, g, -⟩ := h5 rfl; obtain ⟨g1, g2⟩ := g x hx; exact ⟨g1, Or.inr ⟨_, _, _, _, _, g2⟩⟩
theorem zPn.kp {μ μ' : zM} {R o : Nat} {ν ky vl : Nat → Nat} {nx : Nat → Option Nat} {B : Nat → Prop} (h : zPn μ R o ν ky vl nx B) {T : Nat → zT → Prop} (hk : zKp T μ μ') (hT : ∀ x c, B x → ¬ T c (hnT R o x)) : zPn μ' R o ν ky vl nx B := fun x hx => ⟨(h x hx).1, hk _ _ _ (h x hx).2 (hT x _ hx)⟩
theorem zBin.kp {μ μ' : zM} {R o cap : Nat} {ky vl : Nat → Nat} {tr : Bool} {f : Option Nat} {l : List Nat} (h : zBin μ R o cap ky vl tr f l) {T : Nat → zT → Prop} (hk : zKp T μ μ') (hT : ∀ x c, x ∈ l → ¬ T c (hnT R o x)) : zBin μ' R o cap ky vl tr f l := by
  obtain ⟨ν, nx, h1, h2, h3, h4, h5⟩ := h
  refine ⟨ν, nx, h1, h2, h3, fun e => ⟨(h4 e).1.kp hk hT, (h4 e).2⟩, fun e => ?_⟩
  obtain ⟨pa, le, ri, pv, rd, a, b, g1, g2, g3⟩ := h5 e
  exact ⟨pa, le, ri, pv, rd, a, b, g1.kp hk hT, g2, g3⟩
theorem zBin.congr {μ : zM} {R o cap cap' : Nat} {ky vl ky' vl' : Nat → Nat} {tr : Bool} {f : Option Nat} {l : List Nat} (h : zBin μ R o cap ky vl tr f l) (hc : cap ≤ cap') (e : ∀ x, x ∈ l → ky' x = ky x ∧ vl' x = vl x) : zBin μ R o cap' ky' vl' tr f l := by
  obtain ⟨ν, nx, h1, h2, h3, h4, h5⟩ := h
  refine ⟨ν, nx, h1, h2, h3, fun q => ⟨fun x hx => ?_, Nat.le_trans (h4 q).2 hc⟩, fun q => ?_⟩
  · rw [(e x hx).1, (e x hx).2]; exact (h4 q).1 x hx
  · obtain ⟨pa, le, ri, pv, rd, a, b, g1, g2, g3⟩ := h5 q
    refine ⟨pa, le, ri, pv, rd, a, b, fun x hx => ?_, g2, g3⟩
    rw [(e x hx).1, (e x hx).2]; exact g1 x hx
theorem zBin.nil {μ : zM} {R o cap : Nat} {ky vl : Nat → Nat} : zBin μ R o cap ky vl false none [] := ⟨fun _ => 0, fun _ => none, rfl, trivial, List.nodup_nil, fun _ => ⟨fun x hx => absurd hx List.not_mem_nil, Nat.zero_le _⟩, fun q => by cases q⟩
/-- what others do leaves the map -/
theorem zHM.kp {G : zG} {μ μ' : zM} {R o m : Nat} {pl : Bool} {ks : List Nat} {val : Nat → Nat} (h : zHM G μ R o m pl ks val) {T : Nat → zT → Prop} (hk : zKp T μ μ') (hT : ∀ c u, zMt R o c u → ¬ T c u) (h0 : ∀ c, ¬ T c (0, 0)) : zHM G μ' R o m pl ks val := by
  have e1 : ∀ c, ¬ T c (hmT R o) := fun c => hT c _ ⟨rfl, Nat.le_refl _, by show R < R + 8194; omega⟩
  have e2 : ∀ c, ¬ T c (hbT R o) := fun c => hT c _ ⟨rfl, by show R ≤ R + 1; omega, by show R + 1 < R + 8194; omega⟩
  have e3 : ∀ x c, x < 8192 → ¬ T c (hnT R o x) := fun x c hx => hT c _ ⟨rfl, by show R ≤ R + 2 + x; omega, by show R + 2 + x < R + 8194; omega⟩
  rcases h with ⟨tb, k, es, mc, ⟨h1, ky, ft, L, tr, h2, h3, ⟨h4, h5⟩, h6⟩, h7, h8⟩ | ⟨h1, es, mc, thr, ⟨h2, h3⟩, h8⟩
  · refine Or.inl ⟨tb, k, es, mc, ⟨hk _ _ _ h1 (e1 _), ky, ft, L, tr, h2, fun x hx => hk _ _ _ (h3 x hx) (h0 _), ⟨hk _ _ _ h4 (e2 _), fun i hi => ⟨(h5 i hi).1.kp hk (fun x c hx => ?_), (h5 i hi).2⟩⟩, h6⟩, h7, fun e he => hk _ _ _ (h8 e he) (h0 _)⟩
    obtain ⟨_, _, -, -, -, g⟩ := (h5 i hi).1.node
    exact e3 x c (g x hx).1
  · exact Or.inr ⟨h1, es, mc, thr, ⟨hk _ _ _ h2 (e1 _), h3⟩, fun e he => hk _ _ _ (h8 e he) (h0 _)⟩
/-- keys' times -/
theorem zTm {h : Nat} : 6 * nI (h / 6) + nI (h % 6) = nI h := by
  rw [show (6 : Int32) = nI 6 from rfl, pk_mul, nI_add, show 6 * (h / 6) + h % 6 = h by omega]
section ZHG
variable {G : zG} {μ : zM} {R o m : Nat} {pl : Bool} {ks : List Nat} {val : Nat → Nat}
theorem C_hash {k h : Nat} {tk : zT} (hk : μ k = some (tk, oTime (nI (h / 6)) (nI (h % 6)))) (hh : h < 65536) : Meets G 2 MJ4_hash [.ref k] μ (zPure (.int (nI h)) μ) 0 0 := by
  refine meets_of (by decide +kernel) (Nat.le_of_ble_eq_true rfl) ?_
  first | refine aw_aload_n (i := 0) (q := 1) dJ4_hash_0 rfl rfl rfl ?_ | refine aw_aloadN_n (i := 0) (q := 1) dJ4_hash_0 rfl rfl rfl ?_ | refine aw_aloadQ_n (i := 0) (q := 1) dJ4_hash_0 rfl rfl rfl ?_
  refine aw_ifnonnull_r (tgt := 8) dJ4_hash_1 (by decide) ?_
  first | refine aw_aload_n (i := 0) (q := 9) dJ4_hash_8 rfl rfl rfl ?_ | refine aw_aloadN_n (i := 0) (q := 9) dJ4_hash_8 rfl rfl rfl ?_ | refine aw_aloadQ_n (i := 0) (q := 9) dJ4_hash_8 rfl rfl rfl ?_
  refine aw_callU (q := 12) dJ4_hash_9 (C_Time_hash hk) cu_J4_1_8 (by assumption) rfl rfl (by decide) (by decide) (by first | exact Nat.le_of_ble_eq_true rfl | simp [zcat_rf, Value.category]) rfl (zpk ?_)
  rw [zTm]
  refine aw_dup (q := 13) dJ4_hash_12 (by first | rfl | exact zcat_rf _) rfl ?_
  refine aw_istore_n (i := 1) (q := 14) dJ4_hash_13 rfl (by decide) rfl ?_
  refine aw_iload_n (i := 1) (q := 15) dJ4_hash_14 rfl rfl rfl ?_
  refine aw_bipush (v := 16) (q := 17) dJ4_hash_15 rfl rfl ?_
  refine aw_iushr (q := 18) dJ4_hash_17 rfl rfl ?_
  refine aw_ixor (q := 19) dJ4_hash_18 rfl ?_
  rw [i_spread hh, Int32.xor_zero]
  exact aw_ireturn dJ4_hash_19 rfl (by first | rfl | exact zB_nar _) (⟨rfl, rfl⟩)
/-- the answer of getNode -/
def zGot (G : zG) (μ : zM) (R o h : Nat) (ks : List Nat) (val : Nat → Nat) : Option Value → zM → Prop := fun v μ' => μ' = μ ∧ ∃ r, v = some (va_rf r) ∧ ((h ∈ ks ∧ ∃ c ky nx, r = some c ∧ zNc μ c (hnT R o h) h ky (G.2.2.2 (228 + val h)) nx) ∨ (h ∉ ks ∧ r = none))
set_option maxHeartbeats 4000000 in
theorem C_getNode {k h : Nat} (hm : zHM G μ R o m pl ks val) (hk : μ k = some ((0, 0), oTime (nI (h / 6)) (nI (h % 6)))) (hh : h < 8192) : Meets G 4 MJ4_getNode [.ref m, .ref k] μ (zGot G μ R o h ks val) 0 0 := by
  have stop : h ∉ ks → AW G 4 MJ4_getNode (zGot G μ R o h ks val) 0 0 148 [] [] μ := by
    intro hn
    refine aw_null (q := 149) dJ4_getNode_148 rfl ?_
    exact aw_areturnN dJ4_getNode_149 rfl (by first | exact Or.inl ⟨_, rfl⟩ | exact Or.inr ⟨_, rfl⟩) (⟨rfl, none, rfl, Or.inr ⟨hn, rfl⟩⟩)
  rcases hm with ⟨tb, lg, es, mc, ⟨h1, ky, ft, L, tr, h2, h3, ⟨h4, h5⟩, h6, -, h71, h72⟩, h7⟩ | ⟨h1, es, mc, thr, ⟨h2, h3⟩, -⟩
  · have hn256 : 2 ^ lg ≤ 2 ^ 8 := Nat.pow_le_pow_right (by decide) h72
    have hn0 : 0 < 2 ^ lg := Nat.two_pow_pos lg
    generalize hN : 2 ^ lg = n at h1 h4 h5 h6 hn256 hn0
    have hmod : h % n < n := Nat.mod_lt _ hn0
    obtain ⟨hbin, hbm⟩ := h5 (h % n) hmod
    have hiff : h ∈ ks ↔ h ∈ L (h % n) := h6 h
    have hval : ∀ c nx, h ∈ L (h % n) → zNc μ c (hnT R o h) h (ky h) (zVl G val h) nx → zGot G μ R o h ks val (some (va_rf (some c))) μ := fun c nx q1 q2 => ⟨rfl, some c, rfl, Or.inl ⟨hiff.mpr q1, c, ky h, nx, rfl, q2⟩⟩
    try simp only [zrf_s] at h1
    refine meets_of (by decide +kernel) (Nat.le_of_ble_eq_true rfl) ?_
    first | refine aw_aload_n (i := 0) (q := 1) dJ4_getNode_0 rfl rfl rfl ?_ | refine aw_aloadN_n (i := 0) (q := 1) dJ4_getNode_0 rfl rfl rfl ?_ | refine aw_aloadQ_n (i := 0) (q := 1) dJ4_getNode_0 rfl rfl rfl ?_
    refine aw_getfield (q := 4) dJ4_getNode_1 gf_J4_105_19 (by assumption) rfl rfl ?_
    refine aw_dup (q := 5) dJ4_getNode_4 (by first | rfl | exact zcat_rf _) rfl ?_
    first | refine aw_astore_n (i := 2) (q := 6) dJ4_getNode_5 rfl (by decide) rfl ?_ | refine aw_astoreN_n (i := 2) (q := 6) dJ4_getNode_5 rfl (by decide) rfl ?_ | refine aw_astoreQ_n (i := 2) (q := 6) dJ4_getNode_5 rfl (by decide) rfl ?_
    refine aw_ifnull_r (q := 9) dJ4_getNode_6 rfl ?_
    first | refine aw_aload_n (i := 2) (q := 10) dJ4_getNode_9 rfl rfl rfl ?_ | refine aw_aloadN_n (i := 2) (q := 10) dJ4_getNode_9 rfl rfl rfl ?_ | refine aw_aloadQ_n (i := 2) (q := 10) dJ4_getNode_9 rfl rfl rfl ?_
    first | refine aw_alenI (q := 11) dJ4_getNode_10 (by assumption) rfl ?_ | refine aw_alenO (q := 11) dJ4_getNode_10 (by assumption) rfl ?_ | refine aw_alenN (q := 11) dJ4_getNode_10 (by assumption) rfl ?_ | refine aw_alenB (q := 11) dJ4_getNode_10 (by assumption) rfl ?_ | refine aw_alenP (q := 11) dJ4_getNode_10 (by assumption) rfl ?_
    refine aw_dup (q := 12) dJ4_getNode_11 (by first | rfl | exact zcat_rf _) rfl ?_
    refine aw_istore (q := 14) dJ4_getNode_12 (by decide) rfl ?_
    try simp only [zput, zdel_q]
    refine aw_if_le (tgt := 148) (q := 17) dJ4_getNode_14 (by decide) rfl (fun hZ => absurd hZ (nI_nle hn0 (by omega))) (fun _ => ?_)
    first | refine aw_aload_n (i := 2) (q := 18) dJ4_getNode_17 rfl rfl rfl ?_ | refine aw_aloadN_n (i := 2) (q := 18) dJ4_getNode_17 rfl rfl rfl ?_ | refine aw_aloadQ_n (i := 2) (q := 18) dJ4_getNode_17 rfl rfl rfl ?_
    refine aw_iload (q := 20) dJ4_getNode_18 rfl rfl ?_
    refine aw_iconst (v := 1) (q := 21) dJ4_getNode_20 rfl rfl ?_
    refine aw_isub (q := 22) dJ4_getNode_21 rfl ?_
    first | refine aw_aload_n (i := 1) (q := 23) dJ4_getNode_22 rfl rfl rfl ?_ | refine aw_aloadN_n (i := 1) (q := 23) dJ4_getNode_22 rfl rfl rfl ?_ | refine aw_aloadQ_n (i := 1) (q := 23) dJ4_getNode_22 rfl rfl rfl ?_
    refine aw_callS (q := 26) dJ4_getNode_23 (C_hash hk (by omega)) cs_J4_149 rfl rfl (by decide) (by decide) (by first | exact Nat.le_of_ble_eq_true rfl | simp [zcat_rf, Value.category]) rfl (zpk ?_)
    refine aw_dup (q := 27) dJ4_getNode_26 (by first | rfl | exact zcat_rf _) rfl ?_
    refine aw_istore (q := 29) dJ4_getNode_27 (by decide) rfl ?_
    refine aw_iand (q := 30) dJ4_getNode_29 rfl ?_
    rw [show nI n - 1 = nI (n - 1) by rw [show n = (n - 1) + 1 by omega]; exact nI_pred _, i_mask hN (by omega) (by omega)]
    first | refine aw_aaldO (q := 31) (v := ft (h % n)) (h % n) dJ4_getNode_30 (by assumption) (by first | assumption | (simp only [← nI_add, ← pk_mul]; rfl) | rfl) (by omega) (by omega) (rfl) rfl ?_ | refine aw_aaldP (q := 31) (v := ft (h % n)) (h % n) dJ4_getNode_30 (by assumption) (by first | assumption | (simp only [← nI_add, ← pk_mul]; rfl) | rfl) (by omega) (by omega) (rfl) rfl ?_ | refine aw_aaldN (q := 31) (v := ft (h % n)) (h % n) dJ4_getNode_30 (by assumption) (by first | assumption | (simp only [← nI_add, ← pk_mul]; rfl) | rfl) (by omega) (by omega) (rfl) rfl ?_
    refine aw_dup (q := 32) dJ4_getNode_31 (by first | rfl | exact zcat_rf _) rfl ?_
    first | refine aw_astore_n (i := 3) (q := 33) dJ4_getNode_32 rfl (by decide) rfl ?_ | refine aw_astoreN_n (i := 3) (q := 33) dJ4_getNode_32 rfl (by decide) rfl ?_ | refine aw_astoreQ_n (i := 3) (q := 33) dJ4_getNode_32 rfl (by decide) rfl ?_
    try simp only [zput, zdel_q]
    obtain ⟨ν, nx, hf, hch, hnd, hnod⟩ := hbin.node
    rw [hf]
    cases hL : L (h % n) with
    | nil =>
      simp only [List.head?_nil, Option.map_none, zrf_n]
      refine aw_ifnull_n (tgt := 148) dJ4_getNode_33 (by decide) ?_
      exact AW.bud (aw_locals (by exact trivial) (stop (fun q => by (rw [hiff, hL] at q; cases q)))) (by omega) (by omega)
    | cons x l =>
      rw [hL] at hch hnd hnod hiff hval
      obtain ⟨hx8, hx1⟩ := hnod x List.mem_cons_self
      simp only [List.head?_cons, Option.map_some, zrf_s]
      refine aw_ifnull_r (q := 36) dJ4_getNode_33 rfl ?_
      first | refine aw_aload_n (i := 3) (q := 37) dJ4_getNode_36 rfl rfl rfl ?_ | refine aw_aloadN_n (i := 3) (q := 37) dJ4_getNode_36 rfl rfl rfl ?_ | refine aw_aloadQ_n (i := 3) (q := 37) dJ4_getNode_36 rfl rfl rfl ?_
      first | refine aw_getfield (q := 40) dJ4_getNode_37 gf_J4_168_13 (by assumption) rfl rfl ?_ | refine aw_getfield (q := 40) dJ4_getNode_37 gf_J4_168_15 (by assumption) rfl rfl ?_ | refine aw_nd (i := 0) (q := 40) dJ4_getNode_37 gf_J4_168_13 gf_J4_168_15 (by assumption) rfl rfl ?_
      refine aw_iload (q := 42) dJ4_getNode_40 rfl rfl ?_
      have second : x ≠ h → AW G 4 MJ4_getNode (zGot G μ R o h ks val) 0 0 71 [(1, .ref k), (3, .ref (ν x)), (6, .int (nI h))] [] μ := by
        intro hne
        first | refine aw_aload_n (i := 3) (q := 72) dJ4_getNode_71 rfl rfl rfl ?_ | refine aw_aloadN_n (i := 3) (q := 72) dJ4_getNode_71 rfl rfl rfl ?_ | refine aw_aloadQ_n (i := 3) (q := 72) dJ4_getNode_71 rfl rfl rfl ?_
        first | refine aw_getfield (q := 75) dJ4_getNode_72 gf_J4_177_13 (by assumption) rfl rfl ?_ | refine aw_getfield (q := 75) dJ4_getNode_72 gf_J4_177_15 (by assumption) rfl rfl ?_ | refine aw_nd (i := 3) (q := 75) dJ4_getNode_72 gf_J4_177_13 gf_J4_177_15 (by assumption) rfl rfl ?_
        refine aw_dup (q := 76) dJ4_getNode_75 (by first | rfl | exact zcat_rf _) rfl ?_
        first | refine aw_astore (q := 78) dJ4_getNode_76 (by decide) rfl ?_ | refine aw_astoreN (q := 78) dJ4_getNode_76 (by decide) rfl ?_ | refine aw_astoreQ (q := 78) dJ4_getNode_76 (by decide) rfl ?_
        try simp only [zput, zdel_q]
        rw [hch.1]
        cases l with
        | nil =>
          simp only [List.head?_nil, Option.map_none, zrf_n]
          refine aw_ifnull_n (tgt := 148) dJ4_getNode_78 (by decide) ?_
          exact AW.bud (aw_locals (by exact trivial) (stop (fun q => by (rw [hiff] at q; exact hne ((List.mem_singleton.mp q).symm))))) (by omega) (by omega)
        | cons y l =>
          simp only [List.head?_cons, Option.map_some, zrf_s]
          refine aw_ifnull_r (q := 81) dJ4_getNode_78 rfl ?_
          first | refine aw_aload_n (i := 3) (q := 82) dJ4_getNode_81 rfl rfl rfl ?_ | refine aw_aloadN_n (i := 3) (q := 82) dJ4_getNode_81 rfl rfl rfl ?_ | refine aw_aloadQ_n (i := 3) (q := 82) dJ4_getNode_81 rfl rfl rfl ?_
          cases htr : tr (h % n) with
          | true =>
            rw [htr] at hbin
            obtain ⟨ν', nx', hf', -, -, -, hT⟩ := hbin
            obtain ⟨pa, le, ri, pv, rd, a, b, hT, hTr, -⟩ := hT rfl
            rw [hL] at hf' hT hTr
            have e1 : ν' x = ν x := by
              have := hf.symm.trans hf'
              rw [hL] at this
              exact (Option.some.inj this).symm
            have hx2 := (hT x List.mem_cons_self).2
            rw [e1] at hx2
            refine aw_instY (q := 85) dJ4_getNode_82 q739 hx2 ca_15_J23 rfl ?_
            refine aw_if_eq (tgt := 99) (q := 88) dJ4_getNode_85 (by decide) rfl (fun hZ => absurd hZ ((by decide))) (fun _ => ?_)
            first | refine aw_aload_n (i := 3) (q := 89) dJ4_getNode_88 rfl rfl rfl ?_ | refine aw_aloadN_n (i := 3) (q := 89) dJ4_getNode_88 rfl rfl rfl ?_ | refine aw_aloadQ_n (i := 3) (q := 89) dJ4_getNode_88 rfl rfl rfl ?_
            refine aw_cast (q := 92) dJ4_getNode_89 q739 hx2 ca_15_J23 rfl ?_
            refine aw_iload (q := 94) dJ4_getNode_92 rfl rfl ?_
            first | refine aw_aload_n (i := 1) (q := 95) dJ4_getNode_94 rfl rfl rfl ?_ | refine aw_aloadN_n (i := 1) (q := 95) dJ4_getNode_94 rfl rfl rfl ?_ | refine aw_aloadQ_n (i := 1) (q := 95) dJ4_getNode_94 rfl rfl rfl ?_
            rw [← e1]
            rw [← e1] at hx2
            by_cases hin : h ∈ x :: y :: l
            · refine aw_callV (q := 98) dJ4_getNode_95 (C_getTreeNode (res := some (ν' h)) hT hTr (fun _ q => q) List.mem_cons_self hh (Or.inl ⟨hin, rfl⟩) hk (fun q => h3 h (hiff.mpr q))) cv_J4_182_15 (by assumption) rfl rfl (by decide) (by decide) (by first | exact Nat.le_of_ble_eq_true rfl | simp [zcat_rf, Value.category]) rfl (zpk ?_)
              obtain ⟨-, g⟩ := hT h hin
              exact aw_areturn dJ4_getNode_98 rfl (by first | exact Or.inl ⟨_, rfl⟩ | exact Or.inr ⟨_, rfl⟩) (hval (ν' h) _ hin (Or.inr ⟨_, _, _, _, _, g⟩))
            · skip
              refine aw_callV (q := 98) dJ4_getNode_95 (C_getTreeNode (res := none) hT hTr (fun _ q => q) List.mem_cons_self hh (Or.inr ⟨hin, rfl⟩) hk (fun q => absurd q hin)) cv_J4_182_15 (by assumption) rfl rfl (by decide) (by decide) (by first | exact Nat.le_of_ble_eq_true rfl | simp [zcat_rf, Value.category]) rfl (zpk ?_)
              exact aw_areturn dJ4_getNode_98 rfl (by first | exact Or.inl ⟨_, rfl⟩ | exact Or.inr ⟨_, rfl⟩) (⟨rfl, none, rfl, Or.inr ⟨fun q => hin (hiff.mp q), rfl⟩⟩)
          | false =>
            rw [htr] at hbin
            obtain ⟨ν', nx', hf', -, -, hP, -⟩ := hbin
            have e1 : ν' x = ν x := by
              have := hf.symm.trans hf'
              rw [hL] at this
              exact (Option.some.inj this).symm
            have hx2 := ((hP rfl).1 x (by rw [hL]; exact List.mem_cons_self)).2
            rw [e1] at hx2
            refine aw_instNo (q := 85) dJ4_getNode_82 q739 hx2 rfl (by simp [zNcL]; decide +kernel) rfl ?_
            refine aw_if_eq (tgt := 99) (q := 88) dJ4_getNode_85 (by decide) rfl (fun _ => ?_) (fun hZ => absurd (rfl) hZ)
            have loop : ∀ (r : List Nat) (z : Nat), zCh nx (z :: r) → (∀ w, w ∈ z :: r → w ∈ x :: y :: l) → (∀ w, w ∈ x :: y :: l → w = h → w ∈ z :: r) → AW G 4 MJ4_getNode (zGot G μ R o h ks val) 0 0 99 [(1, .ref k), (4, .ref (ν z)), (6, .int (nI h))] [] μ := by
              intro r
              induction r with
              | nil =>
                intro z hcz hin hout
                obtain ⟨hz8, hz1⟩ := hnod z (hin z List.mem_cons_self)
                first | refine aw_aload (q := 101) dJ4_getNode_99 rfl rfl ?_ | refine aw_aloadN (q := 101) dJ4_getNode_99 rfl rfl ?_ | refine aw_aloadQ (q := 101) dJ4_getNode_99 rfl rfl ?_
                first | refine aw_getfield (q := 104) dJ4_getNode_101 gf_J4_168_13 (by assumption) rfl rfl ?_ | refine aw_getfield (q := 104) dJ4_getNode_101 gf_J4_168_15 (by assumption) rfl rfl ?_ | refine aw_nd (i := 0) (q := 104) dJ4_getNode_101 gf_J4_168_13 gf_J4_168_15 (by assumption) rfl rfl ?_
                refine aw_iload (q := 106) dJ4_getNode_104 rfl rfl ?_
                by_cases hzh : z = h
                · subst hzh
                  have hkz := h3 z (hiff.mpr (hin z List.mem_cons_self))
                  refine aw_icmp_ne (tgt := 137) (q := 109) dJ4_getNode_106 (by decide) rfl (fun hZ => absurd (rfl) hZ) (fun _ => ?_)
                  first | refine aw_aload (q := 111) dJ4_getNode_109 rfl rfl ?_ | refine aw_aloadN (q := 111) dJ4_getNode_109 rfl rfl ?_ | refine aw_aloadQ (q := 111) dJ4_getNode_109 rfl rfl ?_
                  first | refine aw_getfield (q := 114) dJ4_getNode_111 gf_J4_170_13 (by assumption) rfl rfl ?_ | refine aw_getfield (q := 114) dJ4_getNode_111 gf_J4_170_15 (by assumption) rfl rfl ?_ | refine aw_nd (i := 1) (q := 114) dJ4_getNode_111 gf_J4_170_13 gf_J4_170_15 (by assumption) rfl rfl ?_
                  refine aw_dup (q := 115) dJ4_getNode_114 (by first | rfl | exact zcat_rf _) rfl ?_
                  first | refine aw_astore (q := 117) dJ4_getNode_115 (by decide) rfl ?_ | refine aw_astoreN (q := 117) dJ4_getNode_115 (by decide) rfl ?_ | refine aw_astoreQ (q := 117) dJ4_getNode_115 (by decide) rfl ?_
                  first | refine aw_aload_n (i := 1) (q := 118) dJ4_getNode_117 rfl rfl rfl ?_ | refine aw_aloadN_n (i := 1) (q := 118) dJ4_getNode_117 rfl rfl rfl ?_ | refine aw_aloadQ_n (i := 1) (q := 118) dJ4_getNode_117 rfl rfl rfl ?_
                  first | refine aw_acmpR_eq (tgt := 134) (q := 121) dJ4_getNode_118 (by decide) rfl (fun hc => ?_) (fun hc => ?_)
                  · first | refine aw_aload (q := 136) dJ4_getNode_134 rfl rfl ?_ | refine aw_aloadN (q := 136) dJ4_getNode_134 rfl rfl ?_ | refine aw_aloadQ (q := 136) dJ4_getNode_134 rfl rfl ?_
                    exact aw_areturnR dJ4_getNode_136 rfl (by first | exact Or.inl ⟨_, rfl⟩ | exact Or.inr ⟨_, rfl⟩) (hval (ν z) _ (hin z List.mem_cons_self) hz1)
                  · first | refine aw_aload_n (i := 1) (q := 122) dJ4_getNode_121 rfl rfl rfl ?_ | refine aw_aloadN_n (i := 1) (q := 122) dJ4_getNode_121 rfl rfl rfl ?_ | refine aw_aloadQ_n (i := 1) (q := 122) dJ4_getNode_121 rfl rfl rfl ?_
                    refine aw_ifnull_r (q := 125) dJ4_getNode_122 rfl ?_
                    first | refine aw_aload_n (i := 1) (q := 126) dJ4_getNode_125 rfl rfl rfl ?_ | refine aw_aloadN_n (i := 1) (q := 126) dJ4_getNode_125 rfl rfl rfl ?_ | refine aw_aloadQ_n (i := 1) (q := 126) dJ4_getNode_125 rfl rfl rfl ?_
                    first | refine aw_aload (q := 128) dJ4_getNode_126 rfl rfl ?_ | refine aw_aloadN (q := 128) dJ4_getNode_126 rfl rfl ?_ | refine aw_aloadQ (q := 128) dJ4_getNode_126 rfl rfl ?_
                    refine aw_callU (q := 131) dJ4_getNode_128 (C_Time_equals hk hkz) cu_J4_173_8 (by assumption) rfl rfl (by decide) (by decide) (by first | exact Nat.le_of_ble_eq_true rfl | simp [zcat_rf, Value.category]) rfl (zpk ?_)
                    refine aw_if_eq (tgt := 137) (q := 134) dJ4_getNode_131 (by decide) rfl (fun hZ => absurd hZ (by (rw [zB_t ⟨rfl, rfl⟩]; decide))) (fun _ => ?_)
                    first | refine aw_aload (q := 136) dJ4_getNode_134 rfl rfl ?_ | refine aw_aloadN (q := 136) dJ4_getNode_134 rfl rfl ?_ | refine aw_aloadQ (q := 136) dJ4_getNode_134 rfl rfl ?_
                    exact aw_areturnR dJ4_getNode_136 rfl (by first | exact Or.inl ⟨_, rfl⟩ | exact Or.inr ⟨_, rfl⟩) (hval (ν z) _ (hin z List.mem_cons_self) hz1)
                · skip
                  refine aw_icmp_ne (tgt := 137) (q := 109) dJ4_getNode_106 (by decide) rfl (fun _ => ?_) (fun hZ => absurd hZ ((fun q => hzh ((nI_eq (by omega) (by omega)).mp q))))
                  first | refine aw_aload (q := 139) dJ4_getNode_137 rfl rfl ?_ | refine aw_aloadN (q := 139) dJ4_getNode_137 rfl rfl ?_ | refine aw_aloadQ (q := 139) dJ4_getNode_137 rfl rfl ?_
                  first | refine aw_getfield (q := 142) dJ4_getNode_139 gf_J4_177_13 (by assumption) rfl rfl ?_ | refine aw_getfield (q := 142) dJ4_getNode_139 gf_J4_177_15 (by assumption) rfl rfl ?_ | refine aw_nd (i := 3) (q := 142) dJ4_getNode_139 gf_J4_177_13 gf_J4_177_15 (by assumption) rfl rfl ?_
                  refine aw_dup (q := 143) dJ4_getNode_142 (by first | rfl | exact zcat_rf _) rfl ?_
                  first | refine aw_astore (q := 145) dJ4_getNode_143 (by decide) rfl ?_ | refine aw_astoreN (q := 145) dJ4_getNode_143 (by decide) rfl ?_ | refine aw_astoreQ (q := 145) dJ4_getNode_143 (by decide) rfl ?_
                  try simp only [zput, zdel_q]
                  rw [hcz.1]
                  simp only [List.head?_nil, Option.map_none, zrf_n]
                  refine aw_ifnonnull_n (q := 148) dJ4_getNode_145 rfl ?_
                  exact AW.bud (aw_locals (by exact trivial) (stop (fun q => by (rw [hiff] at q; exact hzh (List.mem_singleton.mp (hout h q rfl)).symm)))) (by omega) (by omega)
              | cons w r ih =>
                intro z hcz hin hout
                obtain ⟨hz8, hz1⟩ := hnod z (hin z List.mem_cons_self)
                first | refine aw_aload (q := 101) dJ4_getNode_99 rfl rfl ?_ | refine aw_aloadN (q := 101) dJ4_getNode_99 rfl rfl ?_ | refine aw_aloadQ (q := 101) dJ4_getNode_99 rfl rfl ?_
                first | refine aw_getfield (q := 104) dJ4_getNode_101 gf_J4_168_13 (by assumption) rfl rfl ?_ | refine aw_getfield (q := 104) dJ4_getNode_101 gf_J4_168_15 (by assumption) rfl rfl ?_ | refine aw_nd (i := 0) (q := 104) dJ4_getNode_101 gf_J4_168_13 gf_J4_168_15 (by assumption) rfl rfl ?_
                refine aw_iload (q := 106) dJ4_getNode_104 rfl rfl ?_
                by_cases hzh : z = h
                · subst hzh
                  have hkz := h3 z (hiff.mpr (hin z List.mem_cons_self))
                  refine aw_icmp_ne (tgt := 137) (q := 109) dJ4_getNode_106 (by decide) rfl (fun hZ => absurd (rfl) hZ) (fun _ => ?_)
                  first | refine aw_aload (q := 111) dJ4_getNode_109 rfl rfl ?_ | refine aw_aloadN (q := 111) dJ4_getNode_109 rfl rfl ?_ | refine aw_aloadQ (q := 111) dJ4_getNode_109 rfl rfl ?_
                  first | refine aw_getfield (q := 114) dJ4_getNode_111 gf_J4_170_13 (by assumption) rfl rfl ?_ | refine aw_getfield (q := 114) dJ4_getNode_111 gf_J4_170_15 (by assumption) rfl rfl ?_ | refine aw_nd (i := 1) (q := 114) dJ4_getNode_111 gf_J4_170_13 gf_J4_170_15 (by assumption) rfl rfl ?_
                  refine aw_dup (q := 115) dJ4_getNode_114 (by first | rfl | exact zcat_rf _) rfl ?_
                  first | refine aw_astore (q := 117) dJ4_getNode_115 (by decide) rfl ?_ | refine aw_astoreN (q := 117) dJ4_getNode_115 (by decide) rfl ?_ | refine aw_astoreQ (q := 117) dJ4_getNode_115 (by decide) rfl ?_
                  first | refine aw_aload_n (i := 1) (q := 118) dJ4_getNode_117 rfl rfl rfl ?_ | refine aw_aloadN_n (i := 1) (q := 118) dJ4_getNode_117 rfl rfl rfl ?_ | refine aw_aloadQ_n (i := 1) (q := 118) dJ4_getNode_117 rfl rfl rfl ?_
                  first | refine aw_acmpR_eq (tgt := 134) (q := 121) dJ4_getNode_118 (by decide) rfl (fun hc => ?_) (fun hc => ?_)
                  · first | refine aw_aload (q := 136) dJ4_getNode_134 rfl rfl ?_ | refine aw_aloadN (q := 136) dJ4_getNode_134 rfl rfl ?_ | refine aw_aloadQ (q := 136) dJ4_getNode_134 rfl rfl ?_
                    exact aw_areturnR dJ4_getNode_136 rfl (by first | exact Or.inl ⟨_, rfl⟩ | exact Or.inr ⟨_, rfl⟩) (hval (ν z) _ (hin z List.mem_cons_self) hz1)
                  · first | refine aw_aload_n (i := 1) (q := 122) dJ4_getNode_121 rfl rfl rfl ?_ | refine aw_aloadN_n (i := 1) (q := 122) dJ4_getNode_121 rfl rfl rfl ?_ | refine aw_aloadQ_n (i := 1) (q := 122) dJ4_getNode_121 rfl rfl rfl ?_
                    refine aw_ifnull_r (q := 125) dJ4_getNode_122 rfl ?_
                    first | refine aw_aload_n (i := 1) (q := 126) dJ4_getNode_125 rfl rfl rfl ?_ | refine aw_aloadN_n (i := 1) (q := 126) dJ4_getNode_125 rfl rfl rfl ?_ | refine aw_aloadQ_n (i := 1) (q := 126) dJ4_getNode_125 rfl rfl rfl ?_
                    first | refine aw_aload (q := 128) dJ4_getNode_126 rfl rfl ?_ | refine aw_aloadN (q := 128) dJ4_getNode_126 rfl rfl ?_ | refine aw_aloadQ (q := 128) dJ4_getNode_126 rfl rfl ?_
                    refine aw_callU (q := 131) dJ4_getNode_128 (C_Time_equals hk hkz) cu_J4_173_8 (by assumption) rfl rfl (by decide) (by decide) (by first | exact Nat.le_of_ble_eq_true rfl | simp [zcat_rf, Value.category]) rfl (zpk ?_)
                    refine aw_if_eq (tgt := 137) (q := 134) dJ4_getNode_131 (by decide) rfl (fun hZ => absurd hZ (by (rw [zB_t ⟨rfl, rfl⟩]; decide))) (fun _ => ?_)
                    first | refine aw_aload (q := 136) dJ4_getNode_134 rfl rfl ?_ | refine aw_aloadN (q := 136) dJ4_getNode_134 rfl rfl ?_ | refine aw_aloadQ (q := 136) dJ4_getNode_134 rfl rfl ?_
                    exact aw_areturnR dJ4_getNode_136 rfl (by first | exact Or.inl ⟨_, rfl⟩ | exact Or.inr ⟨_, rfl⟩) (hval (ν z) _ (hin z List.mem_cons_self) hz1)
                · skip
                  refine aw_icmp_ne (tgt := 137) (q := 109) dJ4_getNode_106 (by decide) rfl (fun _ => ?_) (fun hZ => absurd hZ ((fun q => hzh ((nI_eq (by omega) (by omega)).mp q))))
                  first | refine aw_aload (q := 139) dJ4_getNode_137 rfl rfl ?_ | refine aw_aloadN (q := 139) dJ4_getNode_137 rfl rfl ?_ | refine aw_aloadQ (q := 139) dJ4_getNode_137 rfl rfl ?_
                  first | refine aw_getfield (q := 142) dJ4_getNode_139 gf_J4_177_13 (by assumption) rfl rfl ?_ | refine aw_getfield (q := 142) dJ4_getNode_139 gf_J4_177_15 (by assumption) rfl rfl ?_ | refine aw_nd (i := 3) (q := 142) dJ4_getNode_139 gf_J4_177_13 gf_J4_177_15 (by assumption) rfl rfl ?_
                  refine aw_dup (q := 143) dJ4_getNode_142 (by first | rfl | exact zcat_rf _) rfl ?_
                  first | refine aw_astore (q := 145) dJ4_getNode_143 (by decide) rfl ?_ | refine aw_astoreN (q := 145) dJ4_getNode_143 (by decide) rfl ?_ | refine aw_astoreQ (q := 145) dJ4_getNode_143 (by decide) rfl ?_
                  try simp only [zput, zdel_q]
                  rw [hcz.1]
                  simp only [List.head?_cons, Option.map_some, zrf_s]
                  refine aw_ifnonnull_r (tgt := 99) dJ4_getNode_145 (by decide) ?_
                  exact AW.bud (aw_locals (by exact ⟨rfl, rfl, rfl, trivial⟩) (ih w hcz.2 (fun v hv => hin v (List.mem_cons_of_mem _ hv)) (fun v hv e => (List.mem_cons.mp (hout v hv e)).resolve_left (fun q => hzh (q ▸ e))))) (by omega) (by omega)
            exact AW.bud (aw_locals (by exact ⟨rfl, rfl, rfl, trivial⟩) (loop l y hch.2 (fun w hw => List.mem_cons_of_mem _ hw) (fun w hw e => (List.mem_cons.mp hw).resolve_left (fun q => hne (q ▸ e))))) (by omega) (by omega)
      by_cases hxh : x = h
      · subst hxh
        have hkx := h3 x (hiff.mpr List.mem_cons_self)
        refine aw_icmp_ne (tgt := 71) (q := 45) dJ4_getNode_42 (by decide) rfl (fun hZ => absurd (rfl) hZ) (fun _ => ?_)
        first | refine aw_aload_n (i := 3) (q := 46) dJ4_getNode_45 rfl rfl rfl ?_ | refine aw_aloadN_n (i := 3) (q := 46) dJ4_getNode_45 rfl rfl rfl ?_ | refine aw_aloadQ_n (i := 3) (q := 46) dJ4_getNode_45 rfl rfl rfl ?_
        first | refine aw_getfield (q := 49) dJ4_getNode_46 gf_J4_170_13 (by assumption) rfl rfl ?_ | refine aw_getfield (q := 49) dJ4_getNode_46 gf_J4_170_15 (by assumption) rfl rfl ?_ | refine aw_nd (i := 1) (q := 49) dJ4_getNode_46 gf_J4_170_13 gf_J4_170_15 (by assumption) rfl rfl ?_
        refine aw_dup (q := 50) dJ4_getNode_49 (by first | rfl | exact zcat_rf _) rfl ?_
        first | refine aw_astore (q := 52) dJ4_getNode_50 (by decide) rfl ?_ | refine aw_astoreN (q := 52) dJ4_getNode_50 (by decide) rfl ?_ | refine aw_astoreQ (q := 52) dJ4_getNode_50 (by decide) rfl ?_
        first | refine aw_aload_n (i := 1) (q := 53) dJ4_getNode_52 rfl rfl rfl ?_ | refine aw_aloadN_n (i := 1) (q := 53) dJ4_getNode_52 rfl rfl rfl ?_ | refine aw_aloadQ_n (i := 1) (q := 53) dJ4_getNode_52 rfl rfl rfl ?_
        first | refine aw_acmpR_eq (tgt := 69) (q := 56) dJ4_getNode_53 (by decide) rfl (fun hc => ?_) (fun hc => ?_)
        · first | refine aw_aload_n (i := 3) (q := 70) dJ4_getNode_69 rfl rfl rfl ?_ | refine aw_aloadN_n (i := 3) (q := 70) dJ4_getNode_69 rfl rfl rfl ?_ | refine aw_aloadQ_n (i := 3) (q := 70) dJ4_getNode_69 rfl rfl rfl ?_
          exact aw_areturnR dJ4_getNode_70 rfl (by first | exact Or.inl ⟨_, rfl⟩ | exact Or.inr ⟨_, rfl⟩) (hval (ν x) _ List.mem_cons_self hx1)
        · first | refine aw_aload_n (i := 1) (q := 57) dJ4_getNode_56 rfl rfl rfl ?_ | refine aw_aloadN_n (i := 1) (q := 57) dJ4_getNode_56 rfl rfl rfl ?_ | refine aw_aloadQ_n (i := 1) (q := 57) dJ4_getNode_56 rfl rfl rfl ?_
          refine aw_ifnull_r (q := 60) dJ4_getNode_57 rfl ?_
          first | refine aw_aload_n (i := 1) (q := 61) dJ4_getNode_60 rfl rfl rfl ?_ | refine aw_aloadN_n (i := 1) (q := 61) dJ4_getNode_60 rfl rfl rfl ?_ | refine aw_aloadQ_n (i := 1) (q := 61) dJ4_getNode_60 rfl rfl rfl ?_
          first | refine aw_aload (q := 63) dJ4_getNode_61 rfl rfl ?_ | refine aw_aloadN (q := 63) dJ4_getNode_61 rfl rfl ?_ | refine aw_aloadQ (q := 63) dJ4_getNode_61 rfl rfl ?_
          refine aw_callU (q := 66) dJ4_getNode_63 (C_Time_equals hk hkx) cu_J4_173_8 (by assumption) rfl rfl (by decide) (by decide) (by first | exact Nat.le_of_ble_eq_true rfl | simp [zcat_rf, Value.category]) rfl (zpk ?_)
          refine aw_if_eq (tgt := 71) (q := 69) dJ4_getNode_66 (by decide) rfl (fun hZ => absurd hZ (by (rw [zB_t ⟨rfl, rfl⟩]; decide))) (fun _ => ?_)
          first | refine aw_aload_n (i := 3) (q := 70) dJ4_getNode_69 rfl rfl rfl ?_ | refine aw_aloadN_n (i := 3) (q := 70) dJ4_getNode_69 rfl rfl rfl ?_ | refine aw_aloadQ_n (i := 3) (q := 70) dJ4_getNode_69 rfl rfl rfl ?_
          exact aw_areturnR dJ4_getNode_70 rfl (by first | exact Or.inl ⟨_, rfl⟩ | exact Or.inr ⟨_, rfl⟩) (hval (ν x) _ List.mem_cons_self hx1)
      · skip
        refine aw_icmp_ne (tgt := 71) (q := 45) dJ4_getNode_42 (by decide) rfl (fun _ => ?_) (fun hZ => absurd hZ ((fun q => hxh ((nI_eq (by omega) (by omega)).mp q))))
        exact AW.bud (aw_locals (by exact ⟨rfl, rfl, rfl, trivial⟩) (second hxh)) (by omega) (by omega)
  · try simp only [zrf_n] at h2
    refine meets_of (by decide +kernel) (Nat.le_of_ble_eq_true rfl) ?_
    first | refine aw_aload_n (i := 0) (q := 1) dJ4_getNode_0 rfl rfl rfl ?_ | refine aw_aloadN_n (i := 0) (q := 1) dJ4_getNode_0 rfl rfl rfl ?_ | refine aw_aloadQ_n (i := 0) (q := 1) dJ4_getNode_0 rfl rfl rfl ?_
    refine aw_getfield (q := 4) dJ4_getNode_1 gf_J4_105_19 (by assumption) rfl rfl ?_
    refine aw_dup (q := 5) dJ4_getNode_4 (by first | rfl | exact zcat_rf _) rfl ?_
    first | refine aw_astore_n (i := 2) (q := 6) dJ4_getNode_5 rfl (by decide) rfl ?_ | refine aw_astoreN_n (i := 2) (q := 6) dJ4_getNode_5 rfl (by decide) rfl ?_ | refine aw_astoreQ_n (i := 2) (q := 6) dJ4_getNode_5 rfl (by decide) rfl ?_
    refine aw_ifnull_n (tgt := 148) dJ4_getNode_6 (by decide) ?_
    exact AW.bud (aw_locals (by exact trivial) (stop (by rw [h1]; exact List.not_mem_nil))) (by omega) (by omega)
theorem C_HM_get {k h : Nat} (hm : zHM G μ R o m pl ks val) (hk : μ k = some ((0, 0), oTime (nI (h / 6)) (nI (h % 6)))) (hh : h < 8192) : Meets G 5 MJ4_get [.ref m, .ref k] μ (zPure (va_rf (if h ∈ ks then some (G.2.2.2 (228 + val h)) else none)) μ) 0 0 := by
  have hobj : ∃ fs, μ m = some (hmT R o, .inr (19, fs)) := by
    rcases hm with ⟨tb, k, es, mc, ⟨h1, -⟩, -⟩ | ⟨-, es, mc, thr, ⟨h2, -⟩, -⟩
    · exact ⟨_, h1⟩
    · exact ⟨_, h2⟩
  obtain ⟨fs, hobj⟩ := hobj
  refine meets_of (by decide +kernel) (Nat.le_of_ble_eq_true rfl) ?_
  first | refine aw_aload_n (i := 0) (q := 1) dJ4_get_0 rfl rfl rfl ?_ | refine aw_aloadN_n (i := 0) (q := 1) dJ4_get_0 rfl rfl rfl ?_ | refine aw_aloadQ_n (i := 0) (q := 1) dJ4_get_0 rfl rfl rfl ?_
  first | refine aw_aload_n (i := 1) (q := 2) dJ4_get_1 rfl rfl rfl ?_ | refine aw_aloadN_n (i := 1) (q := 2) dJ4_get_1 rfl rfl rfl ?_ | refine aw_aloadQ_n (i := 1) (q := 2) dJ4_get_1 rfl rfl rfl ?_
  refine aw_callV (q := 5) dJ4_get_2 (C_getNode hm hk hh) cv_J4_158_19 (by assumption) rfl rfl (by decide) (by decide) (by first | exact Nat.le_of_ble_eq_true rfl | simp [zcat_rf, Value.category]) rfl (fun v2 μ1 hp => ?_)
  obtain ⟨rfl, r, rfl, hr⟩ := hp
  rcases hr with ⟨hin, c, ky, nx, rfl, hn⟩ | ⟨hin, rfl⟩
  · rw [if_pos hin]
    simp only [zrf_s]
    refine aw_dup (q := 6) dJ4_get_5 (by first | rfl | exact zcat_rf _) rfl ?_
    first | refine aw_astore_n (i := 2) (q := 7) dJ4_get_6 rfl (by decide) rfl ?_ | refine aw_astoreN_n (i := 2) (q := 7) dJ4_get_6 rfl (by decide) rfl ?_ | refine aw_astoreQ_n (i := 2) (q := 7) dJ4_get_6 rfl (by decide) rfl ?_
    refine aw_ifnonnull_r (tgt := 14) dJ4_get_7 (by decide) ?_
    first | refine aw_aload_n (i := 2) (q := 15) dJ4_get_14 rfl rfl rfl ?_ | refine aw_aloadN_n (i := 2) (q := 15) dJ4_get_14 rfl rfl rfl ?_ | refine aw_aloadQ_n (i := 2) (q := 15) dJ4_get_14 rfl rfl rfl ?_
    first | refine aw_getfield (q := 18) dJ4_get_15 gf_J4_162_13 (by assumption) rfl rfl ?_ | refine aw_getfield (q := 18) dJ4_get_15 gf_J4_162_15 (by assumption) rfl rfl ?_ | refine aw_nd (i := 2) (q := 18) dJ4_get_15 gf_J4_162_13 gf_J4_162_15 (by assumption) rfl rfl ?_
    exact aw_areturnR dJ4_get_18 rfl (by first | exact Or.inl ⟨_, rfl⟩ | exact Or.inr ⟨_, rfl⟩) (⟨rfl, rfl⟩)
  · rw [if_neg hin]
    simp only [zrf_n]
    refine aw_dup (q := 6) dJ4_get_5 (by first | rfl | exact zcat_rf _) rfl ?_
    first | refine aw_astore_n (i := 2) (q := 7) dJ4_get_6 rfl (by decide) rfl ?_ | refine aw_astoreN_n (i := 2) (q := 7) dJ4_get_6 rfl (by decide) rfl ?_ | refine aw_astoreQ_n (i := 2) (q := 7) dJ4_get_6 rfl (by decide) rfl ?_
    refine aw_ifnonnull_n (q := 10) dJ4_get_7 rfl ?_
    refine aw_null (q := 11) dJ4_get_10 rfl ?_
    refine aw_goto (tgt := 18) dJ4_get_11 (by decide) ?_
    exact aw_areturnN dJ4_get_18 rfl (by first | exact Or.inl ⟨_, rfl⟩ | exact Or.inr ⟨_, rfl⟩) (⟨rfl, rfl⟩)
theorem C_HM_contains {k h : Nat} (hm : zHM G μ R o m pl ks val) (hk : μ k = some ((0, 0), oTime (nI (h / 6)) (nI (h % 6)))) (hh : h < 8192) : Meets G 5 MJ4_containsKey [.ref m, .ref k] μ (zPure (.int (zB (h ∈ ks))) μ) 0 0 := by
  have hobj : ∃ fs, μ m = some (hmT R o, .inr (19, fs)) := by
    rcases hm with ⟨tb, k, es, mc, ⟨h1, -⟩, -⟩ | ⟨-, es, mc, thr, ⟨h2, -⟩, -⟩
    · exact ⟨_, h1⟩
    · exact ⟨_, h2⟩
  obtain ⟨fs, hobj⟩ := hobj
  refine meets_of (by decide +kernel) (Nat.le_of_ble_eq_true rfl) ?_
  first | refine aw_aload_n (i := 0) (q := 1) dJ4_containsKey_0 rfl rfl rfl ?_ | refine aw_aloadN_n (i := 0) (q := 1) dJ4_containsKey_0 rfl rfl rfl ?_ | refine aw_aloadQ_n (i := 0) (q := 1) dJ4_containsKey_0 rfl rfl rfl ?_
  first | refine aw_aload_n (i := 1) (q := 2) dJ4_containsKey_1 rfl rfl rfl ?_ | refine aw_aloadN_n (i := 1) (q := 2) dJ4_containsKey_1 rfl rfl rfl ?_ | refine aw_aloadQ_n (i := 1) (q := 2) dJ4_containsKey_1 rfl rfl rfl ?_
  refine aw_callV (q := 5) dJ4_containsKey_2 (C_getNode hm hk hh) cv_J4_158_19 (by assumption) rfl rfl (by decide) (by decide) (by first | exact Nat.le_of_ble_eq_true rfl | simp [zcat_rf, Value.category]) rfl (fun v2 μ1 hp => ?_)
  obtain ⟨rfl, r, rfl, hr⟩ := hp
  rcases hr with ⟨hin, c, ky, nx, rfl, hn⟩ | ⟨hin, rfl⟩
  · simp only [zrf_s]
    refine aw_ifnull_r (q := 8) dJ4_containsKey_5 rfl ?_
    refine aw_iconst (v := 1) (q := 9) dJ4_containsKey_8 rfl rfl ?_
    refine aw_goto (tgt := 13) dJ4_containsKey_9 (by decide) ?_
    exact aw_ireturn dJ4_containsKey_13 rfl (by first | rfl | exact zB_nar _) (by refine ⟨?_, rfl⟩; rw [zB_t hin])
  · simp only [zrf_n]
    refine aw_ifnull_n (tgt := 12) dJ4_containsKey_5 (by decide) ?_
    refine aw_iconst (v := 0) (q := 13) dJ4_containsKey_12 rfl rfl ?_
    exact aw_ireturn dJ4_containsKey_13 rfl (by first | rfl | exact zB_nar _) (by refine ⟨?_, rfl⟩; rw [zB_f hin])
end ZHG
