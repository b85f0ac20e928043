/-! locals: stores beside what may be null, normalized -/
set_option maxRecDepth 100000
theorem zdel_f {i k : Nat} {v : Value} {L : List (Nat × Value)} (h1 : Nat.beq k i = false) (h2 : Nat.beq (k + 1) i = false) : zdel i ((k, v) :: L) = (k, v) :: zdel i L := by
  simp only [zdel, h1, h2]
theorem zdel_t {i k : Nat} {v : Value} {L : List (Nat × Value)} (h1 : Nat.beq k i = true) : zdel i ((k, v) :: L) = zdel i L := by
  simp only [zdel, h1]
theorem zdel_nil {i : Nat} : zdel i [] = [] := rfl
theorem zbeq {k : Nat} : Nat.beq k (k + 1) = false := by
  cases h : Nat.beq k (k + 1) with
  | false => rfl
  | true => exact absurd (Nat.eq_of_beq_eq_true h) (by omega)
theorem zdel_r {k a : Nat} {L : List (Nat × Value)} : zdel (k + 1) ((k, .ref a) :: L) = (k, .ref a) :: zdel (k + 1) L := by
  have h2 : Nat.beq (k + 1) (k + 1) = true := Nat.beq_refl _
  simp only [zdel, zbeq, h2]
theorem zdel_i {k : Nat} {a : Int32} {L : List (Nat × Value)} : zdel (k + 1) ((k, .int a) :: L) = (k, .int a) :: zdel (k + 1) L := by
  have h2 : Nat.beq (k + 1) (k + 1) = true := Nat.beq_refl _
  simp only [zdel, zbeq, h2]
theorem zdel_n {k : Nat} {L : List (Nat × Value)} : zdel (k + 1) ((k, .null) :: L) = (k, .null) :: zdel (k + 1) L := by
  have h2 : Nat.beq (k + 1) (k + 1) = true := Nat.beq_refl _
  simp only [zdel, zbeq, h2]
