/-! more numbers: striking, the buffer, undoing -/
def nStr (r : Nat → Int32) (d n : Nat) : Nat → Int32 := if n = 3 then va_up (va_up (va_up r (16 + (4 * d + n)) (nI 1)) (32 + (4 * d + n)) (nI 0)) (56 + d) (nI 0) else va_up (va_up (va_up r (16 + (4 * d + n)) (nI 1)) (32 + (4 * d + n)) (nI 0)) (56 + d) (r (56 + d))
noncomputable def kApp (lb : Nat) (u : Int32) : Nat := cd2 (nI 32 ≤ u ∧ u ≤ nI 126) (¬ lb = 60)
noncomputable def kUndo (m0 : Nat) : Nat := cd1 (¬ m0 = 0)
noncomputable def kRest (g : Nat → Int32) : Nat := cd1 (¬ g 7 = 0)
