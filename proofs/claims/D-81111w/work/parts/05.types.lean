/-! THE ABSTRACT MACHINE's TYPES -/
abbrev aV : Type := Int ⊕ (Int ⊕ (Int ⊕ Unit))
abbrev aM : Type := Int → Int → Int
abbrev aE : Type := Nat × Instr × Nat × Int × Int × Nat
abbrev aO : Type := Option aV ⊕ (Int × Int)
abbrev aH : Type := List (Nat × Nat × Nat × Int)
abbrev aT : Type := Nat → Nat × aH × List aE
