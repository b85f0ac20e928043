/-! THE PROGRAMME: a show moves to another time -/
set_option maxRecDepth 100000
theorem tForD_same {P Q : zP} (h : tSame P Q) {b i : Nat} : tForD Q b i ↔ tForD P b i := by
  show (Q 6 i 4 = 0 ∧ Q 6 i 0 = Q 4 b 2 ∧ Q 6 i 1 = Q 3 (tSh Q b) 0) ↔ (P 6 i 4 = 0 ∧ P 6 i 0 = P 4 b 2 ∧ P 6 i 1 = P 3 (tSh P b) 0)
  rw [h.sh, h 6 i 4 (by omega), h 6 i 0 (by omega), h 4 b 2 (by omega), h 6 i 1 (by omega), h 3 (tSh P b) 0 (by omega)]
/-- losing one booking and telling of another's move: in either order -/
theorem zif_congr {α : Type} {p q : Prop} [Decidable p] [Decidable q] {a b c d : α} (h : p ↔ q) (h1 : a = b) (h2 : c = d) : (if p then a else c) = if q then b else d := by
  subst h1 h2
  by_cases z : p
  · rw [if_pos z, if_pos (h.mp z)]
  · rw [if_neg z, if_neg (fun y => z (h.mpr y))]
theorem tLM_comm {Q : zP} {b b' w : Nat} {f t : Int32} : tMoved (tLose Q b' w) b f t = tLose (tMoved Q b f t) b' w := by
  have h1 : tSame Q (tLose Q b' w) := tLose_same
  have h2 : tSame Q (tMoved Q b f t) := tMoved_same
  funext s i c
  have c1 : (s = 6 ∧ c = 7 ∧ i < pcn (tLose Q b' w) 12 ∧ tForD (tLose Q b' w) b i ∧ f ≤ tLose Q b' w 6 i 3 ∧ tLose Q b' w 6 i 3 < t) ↔ (s = 6 ∧ c = 7 ∧ i < pcn Q 12 ∧ tForD Q b i ∧ f ≤ Q 6 i 3 ∧ Q 6 i 3 < t) := by
    rw [h1.cn, h1 6 i 3 (by omega), tForD_same h1]
  have e1 : tMoved (tLose Q b' w) b f t s i c = if s = 6 ∧ c = 7 ∧ i < pcn Q 12 ∧ tForD Q b i ∧ f ≤ Q 6 i 3 ∧ Q 6 i 3 < t then tLose Q b' w s i c + Q 4 b 1 else tLose Q b' w s i c := by
    unfold tMoved tMovedN
    exact zif_congr c1 (by rw [h1 4 b 1 (by omega)]) rfl
  have c2 : (s = 6 ∧ c = 5 + w ∧ i < pcn (tMoved Q b f t) 12 ∧ tForD (tMoved Q b f t) b' i ∧ tMoved Q b f t 3 (tSh (tMoved Q b f t) b') 1 ≤ tMoved Q b f t 6 i 3) ↔ (s = 6 ∧ c = 5 + w ∧ i < pcn Q 12 ∧ tForD Q b' i ∧ Q 3 (tSh Q b') 1 ≤ Q 6 i 3) := by
    rw [h2.cn, h2 6 i 3 (by omega), h2.sh, h2 3 (tSh Q b') 1 (by omega), tForD_same h2]
  have e2 : tTally (tMoved Q b f t) b' w s i c = if s = 6 ∧ c = 5 + w ∧ i < pcn Q 12 ∧ tForD Q b' i ∧ Q 3 (tSh Q b') 1 ≤ Q 6 i 3 then tMoved Q b f t s i c + Q 4 b' 1 else tMoved Q b f t s i c := by
    unfold tTally tTallyN
    exact zif_congr c2 (by rw [h2 4 b' 1 (by omega)]) rfl
  have e3 : tMoved Q b f t s i c = if s = 6 ∧ c = 7 ∧ i < pcn Q 12 ∧ tForD Q b i ∧ f ≤ Q 6 i 3 ∧ Q 6 i 3 < t then Q s i c + Q 4 b 1 else Q s i c := rfl
  have e4 : tTally Q b' w s i c = if s = 6 ∧ c = 5 + w ∧ i < pcn Q 12 ∧ tForD Q b' i ∧ Q 3 (tSh Q b') 1 ≤ Q 6 i 3 then Q s i c + Q 4 b' 1 else Q s i c := rfl
  have v1 : tLose Q b' w s i c = if s = 4 ∧ i = b' then (if c = 4 then 4 else if c = 6 then Q 4 b' 5 else if 8 ≤ c ∧ c < 8 + 8 then 0 else tTally Q b' w s i c) else tTally Q b' w s i c := rfl
  have v2 : tLose (tMoved Q b f t) b' w s i c = if s = 4 ∧ i = b' then (if c = 4 then 4 else if c = 6 then tMoved Q b f t 4 b' 5 else if 8 ≤ c ∧ c < 8 + 8 then 0 else tTally (tMoved Q b f t) b' w s i c) else tTally (tMoved Q b f t) b' w s i c := rfl
  rw [e1, v2, v1]
  by_cases hs : s = 4 ∧ i = b'
  · have x6 : ∀ X : Prop, ¬ (s = 6 ∧ X) := fun X z => by omega
    rw [if_pos hs, if_pos hs, if_neg (x6 _), e2, if_neg (x6 _), e3, if_neg (x6 _), e4, if_neg (x6 _), h2 4 b' 5 (by omega)]
  · rw [if_neg hs, if_neg hs, e2, e3, e4]
    by_cases x : s = 6 ∧ c = 7 ∧ i < pcn Q 12 ∧ tForD Q b i ∧ f ≤ Q 6 i 3 ∧ Q 6 i 3 < t
    · rw [if_pos x, if_pos x]
      by_cases y : s = 6 ∧ c = 5 + w ∧ i < pcn Q 12 ∧ tForD Q b' i ∧ Q 3 (tSh Q b') 1 ≤ Q 6 i 3
      · rw [if_pos y, if_pos y, Int32.add_assoc, Int32.add_comm (Q 4 b' 1), ← Int32.add_assoc]
      · rw [if_neg y, if_neg y]
    · rw [if_neg x, if_neg x]
/-- the bookings that go along are told -/
def tMovN (P Q : zP) (s : Nat) (day to : Int32) : Nat → zP
  | 0 => Q
  | b + 1 => if P 4 b 0 = nI s ∧ P 4 b 4 = 0 ∧ P 4 b 3 = 0 then tMoved (tMovN P Q s day to b) b day to else tMovN P Q s day to b
theorem tMovN_p {P Q : zP} {s b : Nat} {d t : Int32} (h : P 4 b 0 = nI s ∧ P 4 b 4 = 0 ∧ P 4 b 3 = 0) : tMovN P Q s d t (b + 1) = tMoved (tMovN P Q s d t b) b d t := if_pos h
theorem tMovN_n {P Q : zP} {s b : Nat} {d t : Int32} (h : ¬ (P 4 b 0 = nI s ∧ P 4 b 4 = 0 ∧ P 4 b 3 = 0)) : tMovN P Q s d t (b + 1) = tMovN P Q s d t b := if_neg h
theorem tMovN_lose {P Q : zP} {s b w : Nat} {d t : Int32} : ∀ n, tMovN P (tLose Q b w) s d t n = tLose (tMovN P Q s d t n) b w
  | 0 => rfl
  | n + 1 => by
    have ih := tMovN_lose (P := P) (Q := Q) (s := s) (b := b) (w := w) (d := d) (t := t) n
    by_cases q : P 4 n 0 = nI s ∧ P 4 n 4 = 0 ∧ P 4 n 3 = 0
    · rw [tMovN_p q, tMovN_p q, ih, tLM_comm]
    · rw [tMovN_n q, tMovN_n q, ih]
theorem tMovN_same {P Q : zP} {s : Nat} {d t : Int32} : ∀ n, tSame Q (tMovN P Q s d t n)
  | 0 => tSame.rf
  | n + 1 => by
    have ih := tMovN_same (P := P) (Q := Q) (s := s) (d := d) (t := t) n
    by_cases q : P 4 n 0 = nI s ∧ P 4 n 4 = 0 ∧ P 4 n 3 = 0
    · rw [tMovN_p q]; exact ih.tr tMoved_same
    · rw [tMovN_n q]; exact ih
theorem tMovN_bk {P Q : zP} {s b c : Nat} {d t : Int32} : ∀ n, tMovN P Q s d t n 4 b c = Q 4 b c
  | 0 => rfl
  | n + 1 => by
    have ih := tMovN_bk (P := P) (Q := Q) (s := s) (b := b) (c := c) (d := d) (t := t) n
    by_cases q : P 4 n 0 = nI s ∧ P 4 n 4 = 0 ∧ P 4 n 3 = 0
    · rw [tMovN_p q]; exact tMoved_bk.trans ih
    · rw [tMovN_n q]; exact ih
/-- bookings are bound or not -/
def tBd (P : zP) : Prop := ∀ b, b < pcn P 10 → P 4 b 3 = 0 ∨ P 4 b 3 = 1
theorem tDispN_mov {P : zP} {D : Nat → Int32} {s : Nat} {d t : Int32} (hb : tBd P) : ∀ n, n ≤ pcn P 10 → (tDispN P D s true d t n).1 = tMovN P (tLosN P s 2 true n) s d t n
  | 0, _ => rfl
  | n + 1, hn => by
    have ih := tDispN_mov (P := P) (D := D) (s := s) (d := d) (t := t) hb n (by omega)
    by_cases q : P 4 n 0 = nI s ∧ P 4 n 4 = 0
    · by_cases q3 : P 4 n 3 = 1
      · have e1 : (tDispN P D s true d t (n + 1)).1 = tLose (tDispN P D s true d t n).1 n 2 := by
          have z : tDispN P D s true d t (n + 1) = _ := if_pos q
          rw [z, if_pos (Or.inr q3)]
        have e2 : tLosN P s 2 true (n + 1) = tLose (tLosN P s 2 true n) n 2 := if_pos ⟨q.1, q.2, fun _ => by rw [q3]; decide⟩
        rw [e1, e2, tMovN_n (fun z => by rw [q3] at z; exact absurd z.2.2 (by decide)), tMovN_lose, ih]
      · have q0 := (hb n (by omega)).resolve_right q3
        have e1 : (tDispN P D s true d t (n + 1)).1 = tMoved (tDispN P D s true d t n).1 n d t := by
          have z : tDispN P D s true d t (n + 1) = _ := if_pos q
          rw [z, if_neg (fun z => z.elim (fun z => by cases z) q3)]
        have e2 : tLosN P s 2 true (n + 1) = tLosN P s 2 true n := if_neg (fun z => z.2.2 rfl q0)
        rw [e1, e2, tMovN_p ⟨q.1, q.2, q0⟩, ih]
    · have e1 : (tDispN P D s true d t (n + 1)).1 = (tDispN P D s true d t n).1 := by
        have z : tDispN P D s true d t (n + 1) = _ := if_neg q
        rw [z]
      have e2 : tLosN P s 2 true (n + 1) = tLosN P s 2 true n := if_neg (fun z => q ⟨z.1, z.2.1⟩)
      rw [e1, e2, tMovN_n (fun z => q ⟨z.1, z.2.1⟩), ih]
theorem tLose_4 {P : zP} {b w : Nat} : tLose P b w 4 b 4 = 4 := by
  unfold tLose tVacate tVacateN
  rw [if_pos ⟨rfl, rfl⟩, if_pos rfl]
theorem tLosN_st {P : zP} {s w k : Nat} {bd : Bool} : ∀ n, tLosN P s w bd n 4 k 4 = if k < n ∧ P 4 k 0 = nI s ∧ P 4 k 4 = 0 ∧ (bd = true → P 4 k 3 ≠ 0) then 4 else P 4 k 4
  | 0 => by rw [if_neg (by omega)]; rfl
  | n + 1 => by
    have ih := tLosN_st (P := P) (s := s) (w := w) (k := k) (bd := bd) n
    by_cases q : P 4 n 0 = nI s ∧ P 4 n 4 = 0 ∧ (bd = true → P 4 n 3 ≠ 0)
    · have e2 : tLosN P s w bd (n + 1) = tLose (tLosN P s w bd n) n w := if_pos q
      rw [e2]
      by_cases e : k = n
      · subst e
        rw [tLose_4, if_pos ⟨by omega, q⟩]
      · rw [tLose_bk e, ih]
        by_cases z : k < n ∧ P 4 k 0 = nI s ∧ P 4 k 4 = 0 ∧ (bd = true → P 4 k 3 ≠ 0)
        · rw [if_pos z, if_pos ⟨by omega, z.2⟩]
        · rw [if_neg z, if_neg (fun y => z ⟨by omega, y.2⟩)]
    · have e2 : tLosN P s w bd (n + 1) = tLosN P s w bd n := if_neg q
      rw [e2, ih]
      by_cases z : k < n ∧ P 4 k 0 = nI s ∧ P 4 k 4 = 0 ∧ (bd = true → P 4 k 3 ≠ 0)
      · rw [if_pos z, if_pos ⟨by omega, z.2⟩]
      · rw [if_neg z, if_neg (fun y => z ⟨by (by_cases e : k = n; (subst e; exact absurd y.2 q); omega), y.2⟩)]
section ZPQ
variable {G : zG} {μ μ' : zM} {p o : Nat} {P : zP} {A : Nat → Nat → Nat} {c : Nat → Int32}
theorem zTm_ko {a t : Nat} (h : zTim μ a t) (hk : zKp (zKo o) μ μ') : zTim μ' a t := hk _ _ _ h (fun q => by have q2 : 20000 ≤ 0 := q.2; omega)
/-- a show's time and how often it moved -/
def tMvd (Q : zP) (s t : Nat) : zP := updP (updP (updP Q 3 s 1 (nI (t / 6))) 3 s 2 (nI (t % 6))) 3 s 6 (Q 3 s 6 + 1)
theorem tMvd_o {Q : zP} {s t s' i j : Nat} (h : s' ≠ 3 ∨ i ≠ s ∨ (j ≠ 1 ∧ j ≠ 2 ∧ j ≠ 6)) : tMvd Q s t s' i j = Q s' i j := by
  unfold tMvd; rw [updP_ne (by omega), updP_ne (by omega), updP_ne (by omega)]
theorem tMvd_1 {Q : zP} {s t : Nat} : tMvd Q s t 3 s 1 = nI (t / 6) ∧ tMvd Q s t 3 s 2 = nI (t % 6) ∧ tMvd Q s t 3 s 6 = Q 3 s 6 + 1 := by
  unfold tMvd
  refine ⟨?_, ?_, ?_⟩
  · rw [updP_ne (by omega), updP_ne (by omega), updP_eq]
  · rw [updP_ne (by omega), updP_eq]
  · rw [updP_eq]
theorem zPR.mvd {i a t r t0 : Nat} {f : Nat → Int32} (h : zPR G μ p o P A c) (hO : tOk P) (hi : i < pcn P 9) (hob : μ (A 3 i) = some (obT 3 i o, oSh (P 3 i 0) t0 (P 3 i 3) (P 3 i 4) (P 3 i 5) (P 3 i 6) r)) (hr : μ r = some (oaT 3 i o, aI G 8 f)) (hf : ∀ j, j < 8 → f j = tFreeIn P (nI i) j) (ha : zTim μ a t) (hμ : μ' = updM μ (A 3 i) (obT 3 i o, oSh (P 3 i 0) a (P 3 i 3) (P 3 i 4) (P 3 i 5) (P 3 i 6 + 1) r)) : zPR G μ' p o (tMvd P i t) A c ∧ zKp (zKo o) μ μ' := by
  have n1 : r ≠ A 3 i := zneq hr hob (by simp)
  have n2 : a ≠ A 3 i := zneq ha hob (by simp)
  have o4 : ∀ b j, tMvd P i t 4 b j = P 4 b j := fun b j => tMvd_o (Or.inl (by decide))
  have o0 : ∀ j, tMvd P i t 0 0 j = P 0 0 j := fun j => tMvd_o (Or.inl (by decide))
  have ofr : ∀ x j, tFreeIn (tMvd P i t) x j = tFreeIn P x j := fun x j => by
    have e : pcn (tMvd P i t) 10 = pcn P 10 := by unfold pcn; rw [o0]
    unfold tFreeIn
    rw [e]
    exact tFreeInF_congr _ (fun y _ => ⟨o4 _ _, o4 _ _⟩)
  obtain ⟨m1, m2, m3⟩ := tMvd_1 (Q := P) (s := i) (t := t)
  refine ⟨h.one (s0 := 3) (i0 := i) hO (Or.inr (Or.inr (Or.inl rfl))) hi (hμ ▸ zKp.put hob (Or.inl rfl)) o0 ?_ (fun s j _ _ n => ⟨fun x _ => tMvd_o (by omega), fun _ x _ => ofr _ _⟩), hμ ▸ zKp.put hob zKo.ob⟩
  refine ⟨a, r, f, ?_, ?_, hμ ▸ (updM_ne n1).trans hr, fun j hj => (hf j hj).trans (ofr _ _).symm⟩
  · rw [tMvd_o (by omega), tMvd_o (by omega), tMvd_o (by omega), tMvd_o (by omega), m3, hμ]
    exact updM_eq _ _ _
  · rw [m1, m2, hμ]; exact (updM_ne n2).trans ha
/-- what moves leaves -/
def zMvP (G : zG) (μ : zM) (p o : Nat) (P : zP) (A : Nat → Nat → Nat) (c : Nat → Int32) (ks' : List Nat) (val' : Nat → Nat) (s t : Nat) : Option Value → zM → Prop := fun v μ' => v = none ∧ zPR G μ' p o (tMvd (tMovN P (tLosN P s 2 true (pcn P 10)) s (P 3 s 1) (nI (t / 6)) (pcn P 10)) s t) A c ∧ (∃ ks val, zMap1 G μ' o A ks val ∧ zPlq (tMvd (tMovN P (tLosN P s 2 true (pcn P 10)) s (P 3 s 1) (nI (t / 6)) (pcn P 10)) s t) (zPlan (tMvd (tMovN P (tLosN P s 2 true (pcn P 10)) s (P 3 s 1) (nI (t / 6)) (pcn P 10)) s t)) ks val) ∧ zMap2 G μ' o A ks' val' ∧ zKp (zOw o) μ μ'
/-- one asked promise more -/
theorem tMovedN_c {b n : Nat} {f t : Int32} [hd : Decidable (tForD P b n ∧ f ≤ P 6 n 3 ∧ P 6 n 3 < t)] : updP (tMovedN P b f t n) 6 n 7 (P 6 n 7 + (if tForD P b n ∧ f ≤ P 6 n 3 ∧ P 6 n 3 < t then P 4 b 1 else 0)) = tMovedN P b f t (n + 1) := by
  by_cases q : tForD P b n ∧ f ≤ P 6 n 3 ∧ P 6 n 3 < t
  · rw [if_pos q]; exact tMovedN_t q
  · rw [if_neg q, Int32.add_zero, tMovedN_s q, ← tMovedN_hi (P := P) (b := b) (s := 6) (c := 7) (f := f) (t := t) (Nat.le_refl n)]
    exact updP_id
set_option maxHeartbeats 2000000 in
/-- moves' inner loop: the promises of one booking -/
theorem mvs_in {Q : zP} {b s a t it it2 : Nat} {d0 : Int32} {post : Option Value → zM → Prop} (hO : tOk Q) (hb : b < pcn Q 10) (hsb : tSh Q b = s) (hs : s < pcn Q 9) (hd0 : Q 3 s 1 = d0) (bc bs : Nat) (μ0 : zM)
    (hit : μ0 it2 = none) (kk : ∀ μ', zPR G μ' p o (tMovedN Q b d0 (nI (t / 6)) (pcn Q 12)) A c → zKp (zKo o) μ0 μ' → zTim μ' a t → AW G 10 MX1_moves post bc bs 32 [(0, .ref p), (1, .int (nI s)), (2, .ref a), (3, .ref (A 3 s)), (4, .ref it)] [] μ') : ∀ (rem k : Nat) (lr : Int32) (μ2 : zM), k + rem = pcn Q 12 → zPR G μ2 p o (tMovedN Q b d0 (nI (t / 6)) k) A c → zKp (zKo o) μ0 μ2 → zTim μ2 a t → μ2 it2 = some (zTI, oItr k lr (c 6) (A 7 6)) → AW G 10 MX1_moves post bc bs 82 [(0, .ref p), (1, .int (nI s)), (2, .ref a), (3, .ref (A 3 s)), (4, .ref it), (5, .ref (A 4 b)), (6, .ref it2)] [] μ2 := by
  have hcn : pcn Q 12 ≤ 12 := hO.p.2
  have ec : ∀ n j, pcn (tMovedN Q b d0 (nI (t / 6)) n) j = pcn Q j := fun n j => by unfold pcn; rw [tMovedN_lo (Or.inl (by decide))]
  intro rem
  induction rem with
  | zero =>
    intro k lr μ2 hk h2 hkp ha hi
    have ek : k = pcn Q 12 := by omega
    have hL2 := h2.lpr
    obtain ⟨_, chL2⟩ := hL2.cell
    rw [ec] at hL2
    first | refine aw_aload (q := 84) dX1_moves_82 rfl rfl ?_ | refine aw_aloadN (q := 84) dX1_moves_82 rfl rfl ?_ | refine aw_aloadQ (q := 84) dX1_moves_82 rfl rfl ?_
    refine aw_z ?_
    refine aw_callF (q := 89) dX1_moves_84 (C_Itr_hasNext hL2 hi) cf_X1_56_11 (by assumption) rfl rfl (by decide) (by decide) (by first | exact Nat.le_of_ble_eq_true rfl | simp [zcat_rf, Value.category]) rfl (zpk ?_)
    refine aw_if_eq (tgt := 161) (q := 92) dX1_moves_89 (by decide) rfl (fun _ => ?_) (fun hZ => absurd ((zB_f (fun q => q (by rw [ek])))) hZ)
    refine aw_goto (tgt := 32) dX1_moves_161 (by decide) ?_
    exact AW.bud (aw_locals (by exact ⟨rfl, rfl, rfl, rfl, rfl, trivial⟩) (kk μ2 (by rw [ek] at h2; exact h2) hkp ha)) (by omega) (by omega)
  | succ rem ih =>
    intro k lr μ2 hk h2 hkp ha hi
    have hkn : k < pcn Q 12 := by omega
    have hL2 := h2.lpr
    obtain ⟨_, chL2⟩ := hL2.cell
    rw [ec] at hL2
    first | refine aw_aload (q := 84) dX1_moves_82 rfl rfl ?_ | refine aw_aloadN (q := 84) dX1_moves_82 rfl rfl ?_ | refine aw_aloadQ (q := 84) dX1_moves_82 rfl rfl ?_
    refine aw_z ?_
    refine aw_callF (q := 89) dX1_moves_84 (C_Itr_hasNext hL2 hi) cf_X1_56_11 (by assumption) rfl rfl (by decide) (by decide) (by first | exact Nat.le_of_ble_eq_true rfl | simp [zcat_rf, Value.category]) rfl (zpk ?_)
    refine aw_if_eq (tgt := 161) (q := 92) dX1_moves_89 (by decide) rfl (fun hZ => absurd hZ (zHn hkn (by omega))) (fun _ => ?_)
    first | refine aw_aload (q := 94) dX1_moves_92 rfl rfl ?_ | refine aw_aloadN (q := 94) dX1_moves_92 rfl rfl ?_ | refine aw_aloadQ (q := 94) dX1_moves_92 rfl rfl ?_
    refine aw_z ?_
    refine aw_callF (q := 99) dX1_moves_94 (C_Itr_next hL2 hi hkn zTI_nz zTI_ls zTI_la) cf_X1_62_11 (by assumption) rfl rfl (by decide) (by decide) (by first | exact Nat.le_of_ble_eq_true rfl | simp [zcat_rf, Value.category]) rfl (fun v94 μ3 hp => ?_)
    obtain ⟨rfl, hg3⟩ := hp
    have h3 := h2.ti hi hg3
    have hkp3 : zKp (zKo o) μ0 μ3 := hg3 ▸ hkp.it hit
    have hi3 : μ3 it2 = _ := hg3 ▸ updM_eq _ _ _
    have ha3 : zTim μ3 a t := hg3 ▸ (updM_ne (zneq ha hi (by simp))).trans ha
    obtain ⟨r, f, hpr, hct, hf⟩ := h3.pr (i := k) (by rw [ec]; exact hkn)
    obtain ⟨rb, fb, hob, -, -⟩ := h3.bk (i := b) (by rw [ec]; exact hb)
    obtain ⟨ts, rs, fs, hsh, htm, -, -⟩ := h3.sh (i := s) (by rw [ec]; exact hs)
    have hpr0 := hpr
    rw [tMovedN_lo (s := 4) (c := 1) (Or.inl (by decide)), tMovedN_lo (s := 4) (c := 2) (Or.inl (by decide))] at hob
    rw [tMovedN_lo (s := 6) (c := 0) (Or.inr (by decide)), tMovedN_lo (s := 6) (c := 1) (Or.inr (by decide)), tMovedN_lo (s := 6) (c := 3) (Or.inr (by decide)), tMovedN_lo (s := 6) (c := 4) (Or.inr (by decide))] at hpr
    rw [tMovedN_lo (s := 3) (c := 0) (Or.inl (by decide))] at hsh
    rw [tMovedN_lo (s := 3) (c := 1) (Or.inl (by decide)), hd0] at htm
    have hfw : f 2 = Q 6 k 7 := (hf 2 (by decide)).trans (tMovedN_hi (Nat.le_refl k))
    have htz : oaT 6 k o ≠ zC := oaT_nz
    have hir : it2 ≠ r := zneq hi3 hct (by simp)
    have har : a ≠ r := zneq ha3 hct (by simp)
    have hjn : ∀ (x : Int32) (μ4 : zM), x = (if tForD Q b k ∧ d0 ≤ Q 6 k 3 ∧ Q 6 k 3 < nI (t / 6) then Q 4 b 1 else 0) → μ4 = updM μ3 r (oaT 6 k o, aI G 5 (upd f 2 (Q 6 k 7 + x))) → AW G 10 MX1_moves post bc bs 82 [(0, .ref p), (1, .int (nI s)), (2, .ref a), (3, .ref (A 3 s)), (4, .ref it), (5, .ref (A 4 b)), (6, .ref it2)] [] μ4 := by
      intro x μ4 hx hg4
      have h4 := h3.pcount (w := 2) (hO.congr (fun j _ _ => tMovedN_lo (Or.inl (by decide)))) (by rw [ec]; exact hkn) (by decide) hpr0 hct hf hg4
      rw [hx, tMovedN_c] at h4
      exact ih (k + 1) _ μ4 (by omega) h4 (hkp3.tr (hg4 ▸ zKp.put hct zKo.oa)) (hg4 ▸ (updM_ne har).trans ha3) (hg4 ▸ (updM_ne hir).trans hi3)
    have hno : ¬ (tForD Q b k ∧ d0 ≤ Q 6 k 3 ∧ Q 6 k 3 < nI (t / 6)) → AW G 10 MX1_moves post bc bs 131 [(0, .ref p), (1, .int (nI s)), (2, .ref a), (3, .ref (A 3 s)), (4, .ref it), (5, .ref (A 4 b)), (6, .ref it2), (7, .ref (A 6 k))] [] μ3 := by
      intro hn
      refine aw_iconst (v := 0) (q := 132) dX1_moves_131 rfl rfl ?_
      refine aw_istore (q := 134) dX1_moves_132 (by decide) rfl ?_
      try simp (config := {decide := true}) only [zput, zdel_q, zdel_f, zdel_t, zdel_nil, zdel_r, zdel_i, zdel_n]
      first | refine aw_aload (q := 136) dX1_moves_134 rfl rfl ?_ | refine aw_aloadN (q := 136) dX1_moves_134 rfl rfl ?_ | refine aw_aloadQ (q := 136) dX1_moves_134 rfl rfl ?_
      refine aw_getfield (q := 139) dX1_moves_136 gf_X1_152_7 (by assumption) rfl rfl ?_
      refine aw_iconst (v := 2) (q := 140) dX1_moves_139 rfl rfl ?_
      refine aw_dup2 (q := 141) dX1_moves_140 (by first | rfl | exact zcat_rf _) (by first | rfl | exact zcat_rf _) rfl ?_
      refine aw_iald (q := 142) (v := Q 6 k 7) (2) dX1_moves_141 (by assumption) (by first | assumption | (simp only [← nI_add, ← pk_mul]; rfl) | rfl) (by omega) (by omega) (hfw) rfl ?_
      refine aw_iload (q := 144) dX1_moves_142 rfl rfl ?_
      refine aw_if_eq (tgt := 155) (q := 147) dX1_moves_144 (by decide) rfl (fun _ => ?_) (fun hZ => absurd (rfl) hZ)
      refine aw_iconst (v := 0) (q := 156) dX1_moves_155 rfl rfl ?_
      refine aw_iadd (q := 157) dX1_moves_156 rfl ?_
      refine aw_iast (q := 158) (2) dX1_moves_157 hct (by first | assumption | simp) (by first | assumption | (simp only [← nI_add, ← pk_mul]; rfl) | rfl) (by omega) (by omega) rfl (fun μ4 hg_μ4 => ?_)
      have hct : μ4 _ = some _ := hg_μ4 ▸ updM_eq _ _ _
      refine aw_goto (tgt := 82) dX1_moves_158 (by decide) ?_
      exact AW.bud (aw_locals (by exact ⟨rfl, rfl, rfl, rfl, rfl, rfl, rfl, trivial⟩) (hjn 0 μ4 (if_neg hn).symm hg_μ4)) (by omega) (by omega)
    refine aw_cast (q := 102) dX1_moves_99 q635 hpr ca_7_X7 rfl ?_
    first | refine aw_astore (q := 104) dX1_moves_102 (by decide) rfl ?_ | refine aw_astoreN (q := 104) dX1_moves_102 (by decide) rfl ?_ | refine aw_astoreQ (q := 104) dX1_moves_102 (by decide) rfl ?_
    try simp (config := {decide := true}) only [zput, zdel_q, zdel_f, zdel_t, zdel_nil, zdel_r, zdel_i, zdel_n]
    first | refine aw_aload (q := 106) dX1_moves_104 rfl rfl ?_ | refine aw_aloadN (q := 106) dX1_moves_104 rfl rfl ?_ | refine aw_aloadQ (q := 106) dX1_moves_104 rfl rfl ?_
    first | refine aw_aload (q := 108) dX1_moves_106 rfl rfl ?_ | refine aw_aloadN (q := 108) dX1_moves_106 rfl rfl ?_ | refine aw_aloadQ (q := 108) dX1_moves_106 rfl rfl ?_
    first | refine aw_aload_n (i := 3) (q := 109) dX1_moves_108 rfl rfl rfl ?_ | refine aw_aloadN_n (i := 3) (q := 109) dX1_moves_108 rfl rfl rfl ?_ | refine aw_aloadQ_n (i := 3) (q := 109) dX1_moves_108 rfl rfl rfl ?_
    refine aw_z ?_
    refine aw_callV (q := 112) dX1_moves_109 (C_Pr_isFor hpr hob hsh htm) cv_X1_158_7 (by assumption) rfl rfl (by decide) (by decide) (by first | exact Nat.le_of_ble_eq_true rfl | simp [zcat_rf, Value.category]) rfl (zpk ?_)
    refine aw_if_eq (tgt := 131) (q := 115) dX1_moves_112 (by decide) rfl (fun c1 => ?_) (fun c1 => ?_)
    · skip
      refine aw_locals (by exact ⟨rfl, rfl, rfl, rfl, rfl, rfl, rfl, rfl, trivial⟩) (hno (fun q => absurd c1 (by rw [zB_t ⟨q.1.1, q.1.2.1.symm, by rw [q.1.2.2, hsb], q.2.1⟩]; decide)))
    · first | refine aw_aload_n (i := 2) (q := 116) dX1_moves_115 rfl rfl rfl ?_ | refine aw_aloadN_n (i := 2) (q := 116) dX1_moves_115 rfl rfl rfl ?_ | refine aw_aloadQ_n (i := 2) (q := 116) dX1_moves_115 rfl rfl rfl ?_
      refine aw_getfield (q := 119) dX1_moves_116 gf_X1_206_8 (by assumption) rfl rfl ?_
      first | refine aw_aload (q := 121) dX1_moves_119 rfl rfl ?_ | refine aw_aloadN (q := 121) dX1_moves_119 rfl rfl ?_ | refine aw_aloadQ (q := 121) dX1_moves_119 rfl rfl ?_
      refine aw_getfield (q := 124) dX1_moves_121 gf_X1_238_7 (by assumption) rfl rfl ?_
      have q1 := Classical.byContradiction (fun n => c1 (zB_f n))
      refine aw_icmp_le (tgt := 131) (q := 127) dX1_moves_124 (by decide) rfl (fun c2 => ?_) (fun c2 => ?_)
      · skip
        refine aw_locals (by exact ⟨rfl, rfl, rfl, rfl, rfl, rfl, rfl, rfl, trivial⟩) (hno (fun q => absurd q.2.2 (Int32.not_lt.mpr c2)))
      · refine aw_iconst (v := 1) (q := 128) dX1_moves_127 rfl rfl ?_
        refine aw_goto (tgt := 132) dX1_moves_128 (by decide) ?_
        refine aw_istore (q := 134) dX1_moves_132 (by decide) rfl ?_
        try simp (config := {decide := true}) only [zput, zdel_q, zdel_f, zdel_t, zdel_nil, zdel_r, zdel_i, zdel_n]
        first | refine aw_aload (q := 136) dX1_moves_134 rfl rfl ?_ | refine aw_aloadN (q := 136) dX1_moves_134 rfl rfl ?_ | refine aw_aloadQ (q := 136) dX1_moves_134 rfl rfl ?_
        refine aw_getfield (q := 139) dX1_moves_136 gf_X1_152_7 (by assumption) rfl rfl ?_
        refine aw_iconst (v := 2) (q := 140) dX1_moves_139 rfl rfl ?_
        refine aw_dup2 (q := 141) dX1_moves_140 (by first | rfl | exact zcat_rf _) (by first | rfl | exact zcat_rf _) rfl ?_
        have hy : tForD Q b k ∧ d0 ≤ Q 6 k 3 ∧ Q 6 k 3 < nI (t / 6) := ⟨⟨q1.1, q1.2.1.symm, by rw [hsb]; exact q1.2.2.1.symm⟩, q1.2.2.2, Int32.not_le.mp c2⟩
        refine aw_iald (q := 142) (v := Q 6 k 7) (2) dX1_moves_141 (by assumption) (by first | assumption | (simp only [← nI_add, ← pk_mul]; rfl) | rfl) (by omega) (by omega) (hfw) rfl ?_
        refine aw_iload (q := 144) dX1_moves_142 rfl rfl ?_
        refine aw_if_eq (tgt := 155) (q := 147) dX1_moves_144 (by decide) rfl (fun hZ => absurd hZ ((by decide))) (fun _ => ?_)
        first | refine aw_aload (q := 149) dX1_moves_147 rfl rfl ?_ | refine aw_aloadN (q := 149) dX1_moves_147 rfl rfl ?_ | refine aw_aloadQ (q := 149) dX1_moves_147 rfl rfl ?_
        refine aw_getfield (q := 152) dX1_moves_149 gf_X1_162_6 (by assumption) rfl rfl ?_
        refine aw_goto (tgt := 156) dX1_moves_152 (by decide) ?_
        refine aw_iadd (q := 157) dX1_moves_156 rfl ?_
        refine aw_iast (q := 158) (2) dX1_moves_157 hct (by first | assumption | simp) (by first | assumption | (simp only [← nI_add, ← pk_mul]; rfl) | rfl) (by omega) (by omega) rfl (fun μ4 hg_μ4 => ?_)
        have hct : μ4 _ = some _ := hg_μ4 ▸ updM_eq _ _ _
        refine aw_goto (tgt := 82) dX1_moves_158 (by decide) ?_
        exact AW.bud (aw_locals (by exact ⟨rfl, rfl, rfl, rfl, rfl, rfl, rfl, trivial⟩) (hjn _ μ4 (if_pos hy).symm hg_μ4)) (by omega) (by omega)
end ZPQ
