/-! a text's validity, step by step -/
/-- the reading from an order's start on ends well -/
def tOk (b : Nat → Int32) (lb n sp : Nat) : Prop := (tTl b lb n (tPart b lb (tSg b lb sp) sp).1 (tPart b lb (tSg b lb sp) sp).2.1).2 = true
theorem tTl_stop {b : Nat → Int32} {lb n sp : Nat} {w : Bool} (h : ¬ (w = true ∧ sp < lb)) : tTl b lb n sp w = (sp, w) := by
  cases n with
  | zero => rfl
  | succ n => exact if_neg h
theorem tTl_bad {b : Nat → Int32} {lb n sp : Nat} {w : Bool} (h : w = true ∧ sp < lb) (h2 : tNd b lb (nI 59) (nI 59) sp w = false) : tTl b lb (n + 1) sp w = (sp, false) := by
  unfold tTl
  rw [if_pos h, if_neg (by rw [h2]; decide)]
theorem tTl_on {b : Nat → Int32} {lb n sp : Nat} {w : Bool} (h : w = true ∧ sp < lb) (h2 : tNd b lb (nI 59) (nI 59) sp w = true) : tTl b lb (n + 1) sp w = tTl b lb n (tPart b lb (tSg b lb (sp + 1)) (sp + 1)).1 (tPart b lb (tSg b lb (sp + 1)) (sp + 1)).2.1 := by
  conv => lhs; unfold tTl
  rw [if_pos h, if_pos h2]
/-- an order of a valid text is well; behind it the text ends, or goes on behind a semicolon -/
theorem tOk_step {b : Nat → Int32} {lb n sp : Nat} (h : tOk b lb (n + 1) sp) : (tPart b lb (tSg b lb sp) sp).2.1 = true ∧ (lb ≤ (tPart b lb (tSg b lb sp) sp).1 ∨ ((tPart b lb (tSg b lb sp) sp).1 < lb ∧ tOk b lb n ((tPart b lb (tSg b lb sp) sp).1 + 1))) := by
  unfold tOk at h
  generalize tPart b lb (tSg b lb sp) sp = P at h ⊢
  by_cases h1 : P.2.1 = true ∧ P.1 < lb
  · refine ⟨h1.1, Or.inr ⟨h1.2, ?_⟩⟩
    cases h2 : tNd b lb (nI 59) (nI 59) P.1 P.2.1 with
    | false => rw [tTl_bad h1 h2] at h; exact Bool.noConfusion h
    | true => rw [tTl_on h1 h2] at h; exact h
  · rw [tTl_stop h1] at h
    have hw : P.2.1 = true := h
    refine ⟨hw, Or.inl ?_⟩
    rcases Nat.lt_or_ge P.1 lb with q | q
    · exact absurd ⟨hw, q⟩ h1
    · exact q
