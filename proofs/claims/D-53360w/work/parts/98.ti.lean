/-! the tag of things that are soon dropped (iterators, Optionals) -/
abbrev zTI : zT := (0, 3)
theorem zTI_nz : zTI ≠ zC := fun e => by have e1 : (3 : Nat) = 1 := congrArg Prod.snd e; omega
theorem z00_nz : ((0, 0) : zT) ≠ zC := fun e => by have e1 : (0 : Nat) = 1 := congrArg Prod.snd e; omega
