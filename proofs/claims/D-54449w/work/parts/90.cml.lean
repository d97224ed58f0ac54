/-! A DRIVE BY ITSELF -/
def f7 (q a l s c0 c1 c2 : Nat) : Nat → Nat := fun i => if i = 0 then q else if i = 1 then a else if i = 2 then l else if i = 3 then s else if i = 4 then c0 else if i = 5 then c1 else c2
set_option maxHeartbeats 2000000 in
theorem f7_inj {q a l s c0 c1 c2 : Nat} (h01 : q ≠ a) (h02 : q ≠ l) (h03 : q ≠ s) (h04 : q ≠ c0) (h05 : q ≠ c1) (h06 : q ≠ c2) (h12 : a ≠ l) (h13 : a ≠ s) (h14 : a ≠ c0) (h15 : a ≠ c1) (h16 : a ≠ c2) (h23 : l ≠ s) (h24 : l ≠ c0) (h25 : l ≠ c1) (h26 : l ≠ c2) (h34 : s ≠ c0) (h35 : s ≠ c1) (h36 : s ≠ c2) (h45 : c0 ≠ c1) (h46 : c0 ≠ c2) (h56 : c1 ≠ c2) : lInj (fun i => i < 7) (f7 q a l s c0 c1 c2) := by
  intro i j hi hj e
  have ci : i = 0 ∨ i = 1 ∨ i = 2 ∨ i = 3 ∨ i = 4 ∨ i = 5 ∨ i = 6 := by omega
  have cj : j = 0 ∨ j = 1 ∨ j = 2 ∨ j = 3 ∨ j = 4 ∨ j = 5 ∨ j = 6 := by omega
  rcases ci with rfl | rfl | rfl | rfl | rfl | rfl | rfl <;> rcases cj with rfl | rfl | rfl | rfl | rfl | rfl | rfl <;> first | rfl | exact absurd e h01 | exact absurd e h02 | exact absurd e h03 | exact absurd e h04 | exact absurd e h05 | exact absurd e h06 | exact absurd e h12 | exact absurd e h13 | exact absurd e h14 | exact absurd e h15 | exact absurd e h16 | exact absurd e h23 | exact absurd e h24 | exact absurd e h25 | exact absurd e h26 | exact absurd e h34 | exact absurd e h35 | exact absurd e h36 | exact absurd e h45 | exact absurd e h46 | exact absurd e h56 | exact absurd e.symm h01 | exact absurd e.symm h02 | exact absurd e.symm h03 | exact absurd e.symm h04 | exact absurd e.symm h05 | exact absurd e.symm h06 | exact absurd e.symm h12 | exact absurd e.symm h13 | exact absurd e.symm h14 | exact absurd e.symm h15 | exact absurd e.symm h16 | exact absurd e.symm h23 | exact absurd e.symm h24 | exact absurd e.symm h25 | exact absurd e.symm h26 | exact absurd e.symm h34 | exact absurd e.symm h35 | exact absurd e.symm h36 | exact absurd e.symm h45 | exact absurd e.symm h46 | exact absurd e.symm h56
/-- the parts of the drive d, and their numbers 0 .. 6 -/
def dL (d i : Nat) : Prop := i = 10 + d ∨ i = 20 + d ∨ i = 30 + d ∨ (40 + 4 * d ≤ i ∧ i < 44 + 4 * d)
def dIx (d i : Nat) : Nat := if i = 10 + d then 0 else if i = 20 + d then 1 else if i = 30 + d then 2 else if i = 43 + 4 * d then 3 else i - (40 + 4 * d) + 4
theorem dIx_lt {d i : Nat} (hd : d < 4) (h : dL d i) : dIx d i < 7 := by
  unfold dL at h
  unfold dIx
  split
  · omega
  · split
    · omega
    · split
      · omega
      · split
        · omega
        · omega
theorem dIx_c {d i : Nat} (hd : d < 4) (h : dL d i) : (i = 10 + d ∧ dIx d i = 0) ∨ (i = 20 + d ∧ dIx d i = 1) ∨ (i = 30 + d ∧ dIx d i = 2) ∨ (i = 43 + 4 * d ∧ dIx d i = 3) ∨ (40 + 4 * d ≤ i ∧ i < 43 + 4 * d ∧ dIx d i = i - (40 + 4 * d) + 4) := by
  unfold dL at h
  unfold dIx
  by_cases a1 : i = 10 + d
  · rw [if_pos a1]; omega
  · rw [if_neg a1]
    by_cases a2 : i = 20 + d
    · rw [if_pos a2]; omega
    · rw [if_neg a2]
      by_cases a3 : i = 30 + d
      · rw [if_pos a3]; omega
      · rw [if_neg a3]
        by_cases a4 : i = 43 + 4 * d
        · rw [if_pos a4]; omega
        · rw [if_neg a4]; omega
theorem dIx_inj {d i j : Nat} (hd : d < 4) (hi : dL d i) (hj : dL d j) (e : dIx d i = dIx d j) : i = j := by
  have a := dIx_c hd hi
  have b := dIx_c hd hj
  omega
def drNew (G : mG) (q d : Nat) (r : Nat → Int32) (f : Nat → UInt32) (dv : Nat → Int32) (M0 M1 : mM) : Prop := ∃ ap : Nat → Nat, ap (10 + d) = q ∧ lInj (dL d) ap ∧ (∀ i, dL d i → i ≠ 10 + d → M0 (ap i) = none) ∧ NewB M0 q M1 ∧ (∀ i, dL d i → M1 (ap i) = some (sC G ap 0 r f dv i))
def drMade (G : mG) (q d : Nat) (r : Nat → Int32) (f : Nat → UInt32) (dv : Nat → Int32) (M0 M1 : mM) : Prop := ∃ ap : Nat → Nat, ap (10 + d) = q ∧ lInj (dL d) ap ∧ (∀ i, dL d i → M0 (ap i) = none) ∧ New M0 M1 ∧ (∀ i, dL d i → M1 (ap i) = some (sC G ap 0 r f dv i))
theorem drMade.of {G : mG} {q d : Nat} {r : Nat → Int32} {f : Nat → UInt32} {dv : Nat → Int32} {M0 M1 : mM} {e : mE} (hq : M0 q = none) (h : drNew G q d r f dv (mup M0 q e) M1) : drMade G q d r f dv M0 M1 := by
  obtain ⟨ap, h1, h2, h3, h4, h5⟩ := h
  have hn : New M0 (mup M0 q e) := fun a x h => kp_new hq h
  refine ⟨ap, h1, h2, fun i hi => ?_, fun a x h => h4 a x (hn a x h) (kp_ne hq h), h5⟩
  by_cases e0 : i = 10 + d
  · rw [e0, h1]; exact hq
  · exact hn.none (h3 i hi e0)
theorem drNew.of {G : mG} {q a l s c0 c1 c2 d : Nat} {r : Nat → Int32} {f : Nat → UInt32} {dv : Nat → Int32} {M0 M1 : mM} (hd : d < 4) (hi : lInj (fun i => i < 7) (f7 q a l s c0 c1 c2)) (hN : NewB M0 q M1) (z1 : M0 a = none) (z2 : M0 l = none) (z3 : M0 s = none) (z4 : M0 c0 = none) (z5 : M0 c1 = none) (z6 : M0 c2 = none)
    (hq : M1 q = some (eO 2 [.ref a, .ref s, .ref l, .int (r (48 + d)), .int (r (52 + d)), .int (r (56 + d)), .int (r (60 + d))])) (ha : M1 a = some (eQ (G.2.1 5) 3 (va_up (va_up (va_up (fun _ => none) 0 (some c0)) 1 (some c1)) 2 (some c2)))) (hl : M1 l = some (eI (G.2.1 0) 6 (sSl r (64 + 6 * d) 6))) (hs : M1 s = some (eO 3 (sFH r (4 * d + 3)))) (h0 : M1 c0 = some (eO 4 (sFH r (4 * d + 0)))) (h1 : M1 c1 = some (eO 4 (sFH r (4 * d + 1)))) (h2 : M1 c2 = some (eO 4 (sFH r (4 * d + 2)))) : drNew G q d r f dv M0 M1 := by
  have e0 : dIx d (10 + d) = 0 := by unfold dIx; rw [if_pos rfl]
  have e1 : dIx d (20 + d) = 1 := by unfold dIx; rw [if_neg (by omega), if_pos rfl]
  have e2 : dIx d (30 + d) = 2 := by unfold dIx; rw [if_neg (by omega), if_neg (by omega), if_pos rfl]
  have e3 : dIx d (40 + (4 * d + 3)) = 3 := by unfold dIx; rw [if_neg (by omega), if_neg (by omega), if_neg (by omega), if_pos (by omega)]
  have e4 : ∀ j, j < 3 → dIx d (40 + (4 * d + j)) = 4 + j := fun j hj => by unfold dIx; rw [if_neg (by omega), if_neg (by omega), if_neg (by omega), if_neg (by omega)]; omega
  refine ⟨fun i => f7 q a l s c0 c1 c2 (dIx d i), by dsimp only; rw [e0]; rfl, fun i j a1 a2 e => dIx_inj hd a1 a2 (hi _ _ (dIx_lt hd a1) (dIx_lt hd a2) e), fun i hL hne => ?_, hN, fun i hL => ?_⟩
  · have hc : i = 20 + d ∨ i = 30 + d ∨ i = 40 + (4 * d + 0) ∨ i = 40 + (4 * d + 1) ∨ i = 40 + (4 * d + 2) ∨ i = 40 + (4 * d + 3) := by unfold dL at hL; omega
    dsimp only
    rcases hc with rfl | rfl | rfl | rfl | rfl | rfl
    · rw [e1]; exact z1
    · rw [e2]; exact z2
    · rw [e4 0 (by omega)]; exact z4
    · rw [e4 1 (by omega)]; exact z5
    · rw [e4 2 (by omega)]; exact z6
    · rw [e3]; exact z3
  · have hc : i = 10 + d ∨ i = 20 + d ∨ i = 30 + d ∨ i = 40 + (4 * d + 0) ∨ i = 40 + (4 * d + 1) ∨ i = 40 + (4 * d + 2) ∨ i = 40 + (4 * d + 3) := by unfold dL at hL; omega
    rcases hc with rfl | rfl | rfl | rfl | rfl | rfl | rfl
    · rw [sC_D (by omega)]
      dsimp only [sFD]
      rw [e0, e1, e2, e3]
      exact hq
    · rw [sC_A (by omega)]
      dsimp only
      rw [e1]
      refine ha.trans ?_
      congr 2
      have : va_up (va_up (va_up (fun _ => none) 0 (some c0)) 1 (some c1)) 2 (some c2) = sSa (fun i => f7 q a l s c0 c1 c2 (dIx d i)) (40 + 4 * d) 3 := by
        funext j
        unfold sSa va_up
        by_cases j2 : j = 2
        · subst j2
          rw [if_pos rfl, if_pos (by omega)]
          dsimp only
          rw [show 40 + 4 * d + 2 = 40 + (4 * d + 2) by omega, e4 2 (by omega)]
          rfl
        · rw [if_neg j2]
          by_cases j1 : j = 1
          · subst j1
            dsimp only
            rw [if_pos rfl, if_pos (by omega), show 40 + 4 * d + 1 = 40 + (4 * d + 1) by omega, e4 1 (by omega)]
            rfl
          · dsimp only
            rw [if_neg j1]
            by_cases j0 : j = 0
            · subst j0
              rw [if_pos rfl, if_pos (by omega), show 40 + 4 * d + 0 = 40 + (4 * d + 0) by omega, e4 0 (by omega)]
              rfl
            · rw [if_neg j0, if_neg (by omega)]
      rw [this]
    · rw [sC_L (by omega)]
      dsimp only
      rw [e2]
      exact hl
    · rw [sC_H (by omega), if_neg (by omega)]
      dsimp only
      rw [e4 0 (by omega)]
      exact h0
    · rw [sC_H (by omega), if_neg (by omega)]
      dsimp only
      rw [e4 1 (by omega)]
      exact h1
    · rw [sC_H (by omega), if_neg (by omega)]
      dsimp only
      rw [e4 2 (by omega)]
      exact h2
    · rw [sC_H (by omega), if_pos (by omega)]
      dsimp only
      rw [e3]
      exact hs
