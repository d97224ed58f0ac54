/-! THE SYSTEM'S NUMBERS, further -/
theorem va_up_sw {α : Type} (f : Nat → α) {a b : Nat} (x y : α) (h : b ≠ a) : va_up (va_up f a x) b y = va_up (va_up f b y) a x := by
  funext j
  unfold va_up
  by_cases h1 : j = b
  · by_cases h2 : j = a
    · exact absurd (h1.symm.trans h2) h
    · simp [h1, h]
  · by_cases h2 : j = a
    · simp [h2, Ne.symm h]
    · simp [h1, h2]
theorem so_all : (List.range 17).all (fun k => (if nI k - nI k / nI 2 * nI 2 = nI 1 then nI (k + 1) / nI 2 * nI 5 else -(nI (k + 1) / nI 2 * nI 5)) == mTr k) = true := by decide +kernel
theorem so_t {k : Nat} (h : k < 17) (c : nI k - nI k / nI 2 * nI 2 = nI 1) : nI (k + 1) / nI 2 * nI 5 = mTr k := by
  have := List.all_eq_true.mp so_all k (List.mem_range.mpr h)
  rw [if_pos c] at this
  exact beq_iff_eq.mp this
theorem so_f {k : Nat} (h : k < 17) (c : ¬ nI k - nI k / nI 2 * nI 2 = nI 1) : -(nI (k + 1) / nI 2 * nI 5) = mTr k := by
  have := List.all_eq_true.mp so_all k (List.mem_range.mpr h)
  rw [if_neg c] at this
  exact beq_iff_eq.mp this
