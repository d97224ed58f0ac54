/-! NUMBERS OF THE SYSTEM, without a program: what its small functions answer -/
/-- x is one of 0 .. n-1 -/
def inN (x : Int32) (n : Nat) : Prop := ∃ d : Nat, d < n ∧ x = nI d
theorem nK_of {x : Int32} (h : nI 0 ≤ x) : ∃ d : Nat, d < 2 ^ 31 ∧ x = nI d := by
  have h1 : (0 : Int) ≤ x.toInt := by
    have := Int32.le_iff_toInt_le.mp h
    rwa [nI_toInt (by decide)] at this
  have h2 := x.toInt_lt
  refine ⟨x.toInt.toNat, by omega, ?_⟩
  apply Int32.toInt_inj.mp
  rw [nI_toInt (by omega)]
  omega
theorem inN_iff {x : Int32} {n : Nat} (hn : n < 2 ^ 31) : (nI 0 ≤ x ∧ x ≤ nI n) ↔ inN x (n + 1) := by
  constructor
  · rintro ⟨h1, h2⟩
    obtain ⟨d, hd, rfl⟩ := nK_of h1
    exact ⟨d, by have := (nK_le hd hn).mp h2; omega, rfl⟩
  · rintro ⟨d, hd, rfl⟩
    exact ⟨(nK_le (by decide) (by omega)).mpr (by omega), (nK_le (by omega) hn).mpr (by omega)⟩
theorem inN_iff0 {x : Int32} {n : Nat} (hn : n < 2 ^ 31) : (nI 0 ≤ x ∧ x ≤ nI n - nI 1) ↔ inN x n := by
  cases n with
  | zero =>
    constructor
    · rintro ⟨h1, h2⟩
      exact absurd (Int32.le_trans h1 h2) (by decide)
    · rintro ⟨d, hd, rfl⟩
      omega
  | succ n =>
    have : nI (n + 1) - nI 1 = nI n := nI_pred n
    rw [this]
    exact inN_iff (by omega)
/-- the drive with a pack; -1: none -/
def mDw (r : Nat → Int32) (x : Int32) : Int32 := if r 60 = x then nI 0 else if r 61 = x then nI 1 else if r 62 = x then nI 2 else if r 63 = x then nI 3 else -1
/-- where a data head stands -/
def mPl (r : Nat → Int32) (d n p c : Nat) : Int32 := nI (100 * c) + r (0 + (4 * d + n)) + r (64 + 6 * d + p) + (if r (56 + d) = 0 then r (48 + d) else r (90 + p) - r (0 + (4 * d + 3)))
/-- the offset tried behind k others -/
def mTr (k : Nat) : Int32 := if nI k - nI k / nI 2 * nI 2 = nI 1 then nI (5 * (k + 1)) / nI 2 else -5 * nI k / nI 2
theorem mDw_none {r : Nat → Int32} {x : Int32} (h : ∀ j, j < 4 → r (60 + j) ≠ x) : mDw r x = -1 := by
  unfold mDw
  rw [if_neg (h 0 (by decide)), if_neg (h 1 (by decide)), if_neg (h 2 (by decide)), if_neg (h 3 (by decide))]
theorem mDw_at {r : Nat → Int32} {x : Int32} {k : Nat} (hk : k < 4) (h : ∀ j, j < k → r (60 + j) ≠ x) (hx : r (60 + k) = x) : mDw r x = nI k := by
  unfold mDw
  have : k = 0 ∨ k = 1 ∨ k = 2 ∨ k = 3 := by omega
  rcases this with rfl | rfl | rfl | rfl
  · rw [if_pos hx]
  · rw [if_neg (h 0 (by decide)), if_pos hx]
  · rw [if_neg (h 0 (by decide)), if_neg (h 1 (by decide)), if_pos hx]
  · rw [if_neg (h 0 (by decide)), if_neg (h 1 (by decide)), if_neg (h 2 (by decide)), if_pos hx]
