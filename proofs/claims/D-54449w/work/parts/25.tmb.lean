/-! NUMBERS, further: retries, sums, what is saved -/
/-- the first k from there on, of n, that has P; -1: none -/
noncomputable def mFst (P : Nat → Prop) : Nat → Nat → Int32
  | 0, _ => -1
  | n + 1, k => @ite _ (P k) (Classical.propDecidable _) (nI k) (mFst P n (k + 1))
theorem mFst_t {P : Nat → Prop} {n k : Nat} (h : P k) : mFst P (n + 1) k = nI k := by
  unfold mFst
  exact if_pos h
theorem mFst_f {P : Nat → Prop} {n k : Nat} (h : ¬ P k) : mFst P (n + 1) k = mFst P n (k + 1) := by
  conv => lhs; unfold mFst
  exact if_neg h
theorem mFst_or {P : Nat → Prop} : ∀ (n k : Nat), mFst P n k = -1 ∨ ∃ j, k ≤ j ∧ j < k + n ∧ P j ∧ mFst P n k = nI j ∧ ∀ i, k ≤ i → i < j → ¬ P i := by
  intro n
  induction n with
  | zero => intro k; exact Or.inl rfl
  | succ n ih =>
    intro k
    by_cases h : P k
    · exact Or.inr ⟨k, Nat.le_refl _, by omega, h, mFst_t h, fun i h1 h2 => by omega⟩
    · rw [mFst_f h]
      rcases ih (k + 1) with q | ⟨j, h1, h2, h3, h4, h5⟩
      · exact Or.inl q
      · exact Or.inr ⟨j, by omega, by omega, h3, h4, fun i a b => by
          rcases Nat.lt_or_ge k i with c | c
          · exact h5 i c b
          · rw [show i = k by omega]; exact h⟩
theorem mFst_none {P : Nat → Prop} : ∀ (n k : Nat), mFst P n k = -1 → k + n < 2 ^ 30 → ∀ j, k ≤ j → j < k + n → ¬ P j := by
  intro n
  induction n with
  | zero => intro k _ _ j h1 h2; omega
  | succ n ih =>
    intro k h hn j h1 h2
    by_cases q : P k
    · rw [mFst_t q] at h
      have : (nI k).toInt = (-1 : Int32).toInt := by rw [h]
      rw [nI_toInt (by omega)] at this
      exact absurd this (by simp <;> omega)
    · rw [mFst_f q] at h
      rcases Nat.lt_or_ge k j with c | c
      · exact ih (k + 1) h (by omega) j c (by omega)
      · rw [show j = k by omega]; exact q
/-- the signal is enough -/
def mOk (x : UInt32) : Prop := ¬ Op.cmpValue (FP.fcmp x f05) CmpOp.l < 0
noncomputable def mRt (r : Nat → Int32) (f : Nat → UInt32) (d n p0 c0 t : Nat) : Int32 := mFst (fun k => mOk (mSg r f d n p0 c0 (mTr k))) (2 * t + 1) 0
theorem mTr_all : ∀ k, k < 17 → -40 ≤ (mTr k).toInt ∧ (mTr k).toInt ≤ 40 := by decide +kernel
theorem mTr_bnd {k : Nat} (h : k < 17) : bnd 40 (mTr k) := mTr_all k h
/-- a sum of a stretch of the row -/
def mSm (r : Nat → Int32) (a : Nat) : Nat → Int32
  | 0 => nI 0
  | n + 1 => mSm r a n + r (a + n)
theorem cp_up {α : Type} (f g : Nat → α) (sp dp k : Nat) : va_up (va_cpy f g sp dp k) (dp + k) (f (sp + k)) = va_cpy f g sp dp (k + 1) := by
  funext j
  unfold va_up va_cpy
  by_cases h : j = dp + k
  · subst h
    rw [if_pos rfl, if_pos (by omega)]
    congr 1
    omega
  · rw [if_neg h]
    by_cases h2 : dp ≤ j ∧ j < dp + k
    · rw [if_pos h2, if_pos (by omega)]
    · rw [if_neg h2, if_neg (by omega)]
theorem cp_up0 {α : Type} (f g : Nat → α) (sp k : Nat) : va_up (va_cpy f g sp 0 k) k (f (sp + k)) = va_cpy f g sp 0 (k + 1) := by
  have := cp_up f g sp 0 k
  rwa [Nat.zero_add] at this
theorem cp_zero {α : Type} (f g : Nat → α) (sp dp : Nat) : va_cpy f g sp dp 0 = g := by
  funext j
  unfold va_cpy
  rw [if_neg (by omega)]
theorem cp_ahead {α : Type} (f : Nat → α) (sp k : Nat) (h : 0 < sp) : va_cpy f f sp 0 k (sp + k) = f (sp + k) := by
  unfold va_cpy
  rw [if_neg (by omega)]
/-- how many states are saved ahead of the new one -/
def mK (m : Nat) : Nat := if m = 5 then 4 else m
theorem mK_lt {m : Nat} (h : m ≤ 5) : mK m ≤ 4 := by
  unfold mK
  split <;> omega
/-- the saved states behind a save -/
def mSv (m : Nat) (s r : Nat → Int32) : Nat → Int32 := va_cpy r (if m = 5 then va_cpy s s 1566 0 6264 else s) 0 (1566 * mK m) 1566
def mSvf (m : Nat) (s f : Nat → UInt32) : Nat → UInt32 := va_cpy f (if m = 5 then va_cpy s s 720 0 2880 else s) 0 (720 * mK m) 720
def mRc (m : Nat) (h : tH) (r : Nat → Int32) (f : Nat → UInt32) : tH := (mSv m h.1 r, mSvf m h.2.1 f, h.2.2)
/-- the first condition that fails, by its place; 0: none -/
noncomputable def cd1 (P : Prop) : Nat := @ite _ P (Classical.propDecidable P) 0 1
noncomputable def cd2 (P P2 : Prop) : Nat := @ite _ P (Classical.propDecidable P) (@ite _ P2 (Classical.propDecidable P2) 0 2) 1
noncomputable def cd3 (P P2 P3 : Prop) : Nat := @ite _ P (Classical.propDecidable P) (@ite _ P2 (Classical.propDecidable P2) (@ite _ P3 (Classical.propDecidable P3) 0 3) 2) 1
theorem cd1_1 {P : Prop} (h : ¬ P) : cd1 P = 1 := by unfold cd1; exact if_neg h
theorem cd1_0 {P : Prop} (h : P) : cd1 P = 0 := by unfold cd1; exact if_pos h
theorem cd2_1 {P P2 : Prop} (h : ¬ P) : cd2 P P2 = 1 := by unfold cd2; exact if_neg h
theorem cd2_2 {P P2 : Prop} (h : P) (h2 : ¬ P2) : cd2 P P2 = 2 := by unfold cd2; rw [if_pos h]; exact if_neg h2
theorem cd2_0 {P P2 : Prop} (h : P) (h2 : P2) : cd2 P P2 = 0 := by unfold cd2; rw [if_pos h]; exact if_pos h2
theorem cd3_1 {P P2 P3 : Prop} (h : ¬ P) : cd3 P P2 P3 = 1 := by unfold cd3; exact if_neg h
theorem cd3_2 {P P2 P3 : Prop} (h : P) (h2 : ¬ P2) : cd3 P P2 P3 = 2 := by unfold cd3; rw [if_pos h]; exact if_neg h2
theorem cd3_3 {P P2 P3 : Prop} (h : P) (h2 : P2) (h3 : ¬ P3) : cd3 P P2 P3 = 3 := by unfold cd3; rw [if_pos h, if_pos h2]; exact if_neg h3
theorem cd3_0 {P P2 P3 : Prop} (h : P) (h2 : P2) (h3 : P3) : cd3 P P2 P3 = 0 := by unfold cd3; rw [if_pos h, if_pos h2]; exact if_pos h3
