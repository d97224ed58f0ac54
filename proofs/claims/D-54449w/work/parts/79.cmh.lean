/-! A SURFACE BY ITSELF, a head by itself: four cells, one -/
def f4 (a b c d : Nat) : Nat → Nat := fun i => if i = 0 then a else if i = 1 then b else if i = 2 then c else d
theorem f4_inj {a b c d : Nat} (h1 : a ≠ b) (h2 : a ≠ c) (h3 : a ≠ d) (h4 : b ≠ c) (h5 : b ≠ d) (h6 : c ≠ d) : lInj (fun i => i < 4) (f4 a b c d) := by
  intro i j hi hj e
  have ci : i = 0 ∨ i = 1 ∨ i = 2 ∨ i = 3 := by omega
  have cj : j = 0 ∨ j = 1 ∨ j = 2 ∨ j = 3 := by omega
  rcases ci with rfl | rfl | rfl | rfl <;> rcases cj with rfl | rfl | rfl | rfl <;> first | rfl | exact absurd e h1 | exact absurd e h2 | exact absurd e h3 | exact absurd e h4 | exact absurd e h5 | exact absurd e h6 | exact absurd e.symm h1 | exact absurd e.symm h2 | exact absurd e.symm h3 | exact absurd e.symm h4 | exact absurd e.symm h5 | exact absurd e.symm h6
def suAt (G : mG) (u : Nat → Nat) (V O : Nat → Int32) (S : Nat → UInt32) (sc : Int32) (M : mM) : Prop := M (u 0) = some (eO 7 [.ref (u 1), .ref (u 2), .ref (u 3), .int sc]) ∧ M (u 1) = some (eI (G.2.1 0) 40 V) ∧ M (u 2) = some (eI (G.2.1 0) 40 O) ∧ M (u 3) = some (eF (G.2.1 1) 40 S)
/-- a surface made over the cell q -/
def suNew (G : mG) (q : Nat) (V O : Nat → Int32) (S : Nat → UInt32) (sc : Int32) (M0 M1 : mM) : Prop := ∃ u : Nat → Nat, u 0 = q ∧ lInj (fun i => i < 4) u ∧ (∀ i, 0 < i → i < 4 → M0 (u i) = none) ∧ NewB M0 q M1 ∧ suAt G u V O S sc M1
/-- a surface all of whose cells are new -/
def suMade (G : mG) (q : Nat) (V O : Nat → Int32) (S : Nat → UInt32) (sc : Int32) (M0 M1 : mM) : Prop := ∃ u : Nat → Nat, u 0 = q ∧ lInj (fun i => i < 4) u ∧ (∀ i, i < 4 → M0 (u i) = none) ∧ New M0 M1 ∧ suAt G u V O S sc M1
theorem suMade.of {G : mG} {q : Nat} {V O : Nat → Int32} {S : Nat → UInt32} {sc : Int32} {M0 M1 : mM} {e : mE} (hq : M0 q = none) (h : suNew G q V O S sc (mup M0 q e) M1) : suMade G q V O S sc M0 M1 := by
  obtain ⟨u, h1, h2, h3, h4, h5⟩ := h
  have hn : New M0 (mup M0 q e) := fun a x h => kp_new hq h
  refine ⟨u, h1, h2, fun i hi => ?_, fun a x h => h4 a x (hn a x h) (kp_ne hq h), h5⟩
  by_cases e0 : i = 0
  · rw [e0, h1]; exact hq
  · exact hn.none (h3 i (by omega) hi)
theorem fill0 : (fun j => if j < 0 then (-1 : Int32) else 0) = fun _ => 0 := by
  funext j
  rw [if_neg (Nat.not_lt_zero j)]
theorem fill_s (i : Nat) : va_up (fun j => if j < i then (-1 : Int32) else 0) i (-1) = fun j => if j < i + 1 then (-1 : Int32) else 0 := by
  funext j
  unfold va_up
  by_cases h : j = i
  · rw [if_pos h, if_pos (by omega)]
  · rw [if_neg h]
    dsimp only
    by_cases h2 : j < i
    · rw [if_pos h2, if_pos (by omega)]
    · rw [if_neg h2, if_neg (by omega)]
