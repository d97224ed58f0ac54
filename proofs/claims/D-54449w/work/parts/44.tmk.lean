/-! AN ORDER CARRIED OUT: whether it is possible, the next row and strengths -/
noncomputable def tDo (r : Nat → Int32) (f : Nat → UInt32) (L x z u : Int32) : Bool × (Nat → Int32) × (Nat → UInt32) :=
  if L = nI 109 then (if kMount r x z = 0 then (true, va_up r (60 + nD x) z, f) else (false, r, f)) else
  if L = nI 117 then (if kPack r x = 0 then (true, nUnm r (nD x), f) else (false, r, f)) else
  if L = nI 115 then (if kSeek r x z = 0 then (true, va_up r (52 + nD x) z, f) else (false, r, f)) else
  if L = nI 119 then (if kWrite r x z u = 0 then (true, nRubR (nWrR r (nD x) (nD z) (nD (r (60 + nD x))) (nD (r (52 + nD x))) u) (nD x) (nD z) (nD (r (60 + nD x))), nRubF (nWrR r (nD x) (nD z) (nD (r (60 + nD x))) (nD (r (52 + nD x))) u) (nWrF r f (nD x) (nD z) (nD (r (60 + nD x))) (nD (r (52 + nD x)))) (nD x) (nD z) (nD (r (60 + nD x))) (nD (r (52 + nD x)))) else (false, r, f)) else
  if L = nI 114 then (if kRead r x z = 0 then (true, nRubR (nRdR r (nD x) (nD (r (60 + nD x))) (nD (r 88)) (mRt r f (nD x) (nD z) (nD (r (60 + nD x))) (nD (r (52 + nD x))) (nD (r 88)))) (nD x) (nD z) (nD (r (60 + nD x))), nRubF (nRdR r (nD x) (nD (r (60 + nD x))) (nD (r 88)) (mRt r f (nD x) (nD z) (nD (r (60 + nD x))) (nD (r (52 + nD x))) (nD (r 88)))) f (nD x) (nD z) (nD (r (60 + nD x))) (nD (r (52 + nD x)))) else (false, r, f)) else
  if L = nI 118 then (if kServo r x (bI (z = nI 1)) = 0 then (true, va_up r (56 + nD x) z, f) else (false, r, f)) else
  if L = nI 99 then (if kPolish r x = 0 then (true, nPolR r (nD x) 3, nPolF r f (nD x) 3) else (false, r, f)) else
  (true, nMend r (nD x) (nD z), f)
theorem tDo_m1 {r : Nat → Int32} {f : Nat → UInt32} {x z u : Int32} (h : kMount r x z = 0) : tDo r f (nI 109) x z u = (true, va_up r (60 + nD x) z, f) := by
  unfold tDo
  rw [if_pos rfl, if_pos h]
theorem tDo_m0 {r : Nat → Int32} {f : Nat → UInt32} {x z u : Int32} (h : ¬ kMount r x z = 0) : tDo r f (nI 109) x z u = (false, r, f) := by
  unfold tDo
  rw [if_pos rfl, if_neg h]
theorem tDo_u1 {r : Nat → Int32} {f : Nat → UInt32} {x z u : Int32} (h : kPack r x = 0) : tDo r f (nI 117) x z u = (true, nUnm r (nD x), f) := by
  unfold tDo
  rw [if_neg (by decide), if_pos rfl, if_pos h]
theorem tDo_u0 {r : Nat → Int32} {f : Nat → UInt32} {x z u : Int32} (h : ¬ kPack r x = 0) : tDo r f (nI 117) x z u = (false, r, f) := by
  unfold tDo
  rw [if_neg (by decide), if_pos rfl, if_neg h]
theorem tDo_s1 {r : Nat → Int32} {f : Nat → UInt32} {x z u : Int32} (h : kSeek r x z = 0) : tDo r f (nI 115) x z u = (true, va_up r (52 + nD x) z, f) := by
  unfold tDo
  rw [if_neg (by decide), if_neg (by decide), if_pos rfl, if_pos h]
theorem tDo_s0 {r : Nat → Int32} {f : Nat → UInt32} {x z u : Int32} (h : ¬ kSeek r x z = 0) : tDo r f (nI 115) x z u = (false, r, f) := by
  unfold tDo
  rw [if_neg (by decide), if_neg (by decide), if_pos rfl, if_neg h]
theorem tDo_w1 {r : Nat → Int32} {f : Nat → UInt32} {x z u : Int32} (h : kWrite r x z u = 0) : tDo r f (nI 119) x z u = (true, nRubR (nWrR r (nD x) (nD z) (nD (r (60 + nD x))) (nD (r (52 + nD x))) u) (nD x) (nD z) (nD (r (60 + nD x))), nRubF (nWrR r (nD x) (nD z) (nD (r (60 + nD x))) (nD (r (52 + nD x))) u) (nWrF r f (nD x) (nD z) (nD (r (60 + nD x))) (nD (r (52 + nD x)))) (nD x) (nD z) (nD (r (60 + nD x))) (nD (r (52 + nD x)))) := by
  unfold tDo
  rw [if_neg (by decide), if_neg (by decide), if_neg (by decide), if_pos rfl, if_pos h]
theorem tDo_w0 {r : Nat → Int32} {f : Nat → UInt32} {x z u : Int32} (h : ¬ kWrite r x z u = 0) : tDo r f (nI 119) x z u = (false, r, f) := by
  unfold tDo
  rw [if_neg (by decide), if_neg (by decide), if_neg (by decide), if_pos rfl, if_neg h]
theorem tDo_r1 {r : Nat → Int32} {f : Nat → UInt32} {x z u : Int32} (h : kRead r x z = 0) : tDo r f (nI 114) x z u = (true, nRubR (nRdR r (nD x) (nD (r (60 + nD x))) (nD (r 88)) (mRt r f (nD x) (nD z) (nD (r (60 + nD x))) (nD (r (52 + nD x))) (nD (r 88)))) (nD x) (nD z) (nD (r (60 + nD x))), nRubF (nRdR r (nD x) (nD (r (60 + nD x))) (nD (r 88)) (mRt r f (nD x) (nD z) (nD (r (60 + nD x))) (nD (r (52 + nD x))) (nD (r 88)))) f (nD x) (nD z) (nD (r (60 + nD x))) (nD (r (52 + nD x)))) := by
  unfold tDo
  rw [if_neg (by decide), if_neg (by decide), if_neg (by decide), if_neg (by decide), if_pos rfl, if_pos h]
theorem tDo_r0 {r : Nat → Int32} {f : Nat → UInt32} {x z u : Int32} (h : ¬ kRead r x z = 0) : tDo r f (nI 114) x z u = (false, r, f) := by
  unfold tDo
  rw [if_neg (by decide), if_neg (by decide), if_neg (by decide), if_neg (by decide), if_pos rfl, if_neg h]
theorem tDo_v1 {r : Nat → Int32} {f : Nat → UInt32} {x z u : Int32} (h : kServo r x (bI (z = nI 1)) = 0) : tDo r f (nI 118) x z u = (true, va_up r (56 + nD x) z, f) := by
  unfold tDo
  rw [if_neg (by decide), if_neg (by decide), if_neg (by decide), if_neg (by decide), if_neg (by decide), if_pos rfl, if_pos h]
theorem tDo_v0 {r : Nat → Int32} {f : Nat → UInt32} {x z u : Int32} (h : ¬ kServo r x (bI (z = nI 1)) = 0) : tDo r f (nI 118) x z u = (false, r, f) := by
  unfold tDo
  rw [if_neg (by decide), if_neg (by decide), if_neg (by decide), if_neg (by decide), if_neg (by decide), if_pos rfl, if_neg h]
theorem tDo_c1 {r : Nat → Int32} {f : Nat → UInt32} {x z u : Int32} (h : kPolish r x = 0) : tDo r f (nI 99) x z u = (true, nPolR r (nD x) 3, nPolF r f (nD x) 3) := by
  unfold tDo
  rw [if_neg (by decide), if_neg (by decide), if_neg (by decide), if_neg (by decide), if_neg (by decide), if_neg (by decide), if_pos rfl, if_pos h]
theorem tDo_c0 {r : Nat → Int32} {f : Nat → UInt32} {x z u : Int32} (h : ¬ kPolish r x = 0) : tDo r f (nI 99) x z u = (false, r, f) := by
  unfold tDo
  rw [if_neg (by decide), if_neg (by decide), if_neg (by decide), if_neg (by decide), if_neg (by decide), if_neg (by decide), if_pos rfl, if_neg h]
theorem tDo_f {r : Nat → Int32} {f : Nat → UInt32} {x z u : Int32} : tDo r f (nI 102) x z u = (true, nMend r (nD x) (nD z), f) := by
  unfold tDo
  rw [if_neg (by decide), if_neg (by decide), if_neg (by decide), if_neg (by decide), if_neg (by decide), if_neg (by decide), if_neg (by decide)]
/-- an order that the reading found well -/
def tWl (L x z : Int32) : Prop := L = nI 109 ∨ L = nI 117 ∨ L = nI 115 ∨ L = nI 119 ∨ L = nI 114 ∨ (L = nI 118 ∧ (z = nI 0 ∨ z = nI 1)) ∨ L = nI 99 ∨ (L = nI 102 ∧ inN x 4 ∧ inN z 4)
