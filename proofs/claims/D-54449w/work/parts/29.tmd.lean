/-! what a call leaves that either fails with a code or goes well -/
def qPost (K : Nat) (err v : Value) (E N : mM) : mM → Option Value → mM → Prop := fun _ ρ M' => (¬ K = 0 ∧ ρ = some err ∧ M' = E) ∨ (K = 0 ∧ ρ = some v ∧ M' = N)
theorem nHlv_fs {f : Nat → UInt32} {a k j : Nat} (h : f j ∈ fsL) : nHlv f a k j ∈ fsL := by
  unfold nHlv
  split
  · exact fs_half' h
  · exact h
theorem nPolF_fs {r : Nat → Int32} {f : Nat → UInt32} {p0 : Nat} (h : ∀ j, j < 720 → f j ∈ fsL) : ∀ k j, j < 720 → nPolF r f p0 k j ∈ fsL := by
  intro k
  induction k with
  | zero => exact h
  | succ k ih =>
    intro j hj
    unfold nPolF
    split
    · exact nHlv_fs (ih j hj)
    · exact ih j hj
theorem nRdA_at {r : Nat → Int32} {d p0 t i : Nat} {q : Int32} (h : i < 114) : nRdA r d p0 t q i = r i := by
  unfold nRdA
  rw [va_up_ne _ _ (by omega), va_up_ne _ _ (by omega), va_up_ne _ _ (by split <;> omega)]
theorem nRdR_at {r : Nat → Int32} {d p0 t i : Nat} {q : Int32} (h : i < 64) : nRdR r d p0 t q i = r i := by
  unfold nRdR
  split
  · rw [va_up_ne _ _ (by omega)]
    exact nRdA_at (by omega)
  · exact nRdA_at (by omega)
theorem nWrR_at {r : Nat → Int32} {d n p0 c0 i : Nat} {v : Int32} (h : i < 126) : nWrR r d n p0 c0 v i = r i := by
  unfold nWrR
  rw [va_up_ne _ _ (by omega), va_up_ne _ _ (by omega)]
theorem nWrS_fs (r : Nat → Int32) (d n p0 c0 : Nat) : nWrS r d n p0 c0 ∈ fsL := by
  unfold nWrS
  split <;> split
  · exact fs_75_5
  · exact fs_75_1
  · exact fs_5
  · exact fs_1
theorem m1_ne_nI {j : Nat} (h : j < 2 ^ 31) : ¬ nI j = -1 := by
  intro e
  have : (nI j).toInt = (-1 : Int32).toInt := by rw [e]
  rw [nI_toInt h] at this
  exact absurd this (by simp <;> omega)
