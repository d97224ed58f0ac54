/-! MAPS CHANGED TWICE -/
theorem mup_mup {M : mM} {a : Nat} {x y : mE} : mup (mup M a x) a y = mup M a y := by
  funext j
  unfold mup
  by_cases h : j = a
  · rw [if_pos h, if_pos h]
  · rw [if_neg h, if_neg h, if_neg h]
theorem mup_sw {M : mM} {a b : Nat} {x y : mE} (h : a ≠ b) : mup (mup M a x) b y = mup (mup M b y) a x := by
  funext j
  unfold mup
  by_cases h1 : j = a
  · by_cases h2 : j = b
    · exact absurd (h1.symm.trans h2) h
    · rw [if_neg h2, if_pos h1, if_pos h1]
  · by_cases h2 : j = b
    · rw [if_pos h2, if_neg h1, if_pos h2]
    · rw [if_neg h2, if_neg h1, if_neg h1, if_neg h2]
theorem mup_4 {M : mM} {u q : Nat} {e0 e1 x1 x2 : mE} (h : u ≠ q) : mup (mup (mup (mup M u e0) q x1) u e1) q x2 = mup (mup M u e1) q x2 := by
  rw [mup_sw (M := mup M u e0) (a := q) (b := u) (Ne.symm h), mup_mup, mup_mup]
theorem mup_3 {M : mM} {u q : Nat} {e1 x1 x2 : mE} (h : u ≠ q) : mup (mup (mup M q x1) u e1) q x2 = mup (mup M u e1) q x2 := by
  rw [mup_sw (a := q) (b := u) (Ne.symm h), mup_mup]
theorem mup_none {M : mM} {q u : Nat} {x : mE} (h : mup M q x u = none) : M u = none := by
  unfold mup at h
  by_cases e : u = q
  · rw [if_pos e] at h; cases h
  · rwa [if_neg e] at h
