/-! THE TEXT READER'S WHOLE READING: the orders kept so far -/
/-- where the orders begin -/
def rPos (b : Nat → Int32) (nb : Nat) : Nat → Nat
  | 0 => 0
  | n + 1 => (tPart b nb (tSg b nb (rPos b nb n)) (rPos b nb n)).1 + 1
/-- the order there, as an object -/
abbrev rOa (G : mG) (b : Nat → Int32) (nb pl : Nat) : mE := rOb G (tSg b nb pl) (tPart b nb (tSg b nb pl) pl).2.2.1 (tPart b nb (tSg b nb pl) pl).2.2.2.1 (tPart b nb (tSg b nb pl) pl).2.2.2.2
def rInv (G : mG) (rd eb : Nat) (b : Nat → Int32) (nb mn : Nat) (fn : Nat → Option Nat) (M0 M : mM) : Prop :=
  (∀ i, i < mn → rPos b nb i < nb ∧ (tPart b nb (tSg b nb (rPos b nb i)) (rPos b nb i)).2.1 = true ∧ ∃ o, fn i = some o ∧ M0 o = none ∧ M o = some (rOa G b nb (rPos b nb i))) ∧ M eb = some (eQ (G.2.1 8) 60 fn) ∧ ∀ a z, M0 a = some z → a ≠ rd → a ≠ eb → M a = some z
section RDA
variable {G : mG} {rd eb x nb mn pl : Nat} {b : Nat → Int32} {fn : Nat → Option Nat} {M0 M M1 : mM} {e y y2 : mE}
theorem tPart_lt (h : (tPart b nb (tSg b nb pl) pl).2.1 = true) : pl < nb := by
  refine Classical.byContradiction fun q => ?_
  have h0 : tSg b nb pl = nI 0 := if_neg q
  have h1 : tP1 (tSg b nb pl) = false := by rw [h0]; decide
  rw [(rP_no h1).2] at h
  cases h
theorem rInv.start (h : M0 eb = some (eQ (G.2.1 8) 60 fn)) : rInv G rd eb b nb 0 fn M0 M0 := ⟨fun i hi => absurd hi (Nat.not_lt_zero _), h, fun _ _ q _ _ => q⟩
theorem rInv.put (h : rInv G rd eb b nb mn fn M0 M) (hr : M0 rd = some y) (hne : rd ≠ eb) : rInv G rd eb b nb mn fn M0 (mup M rd e) :=
  ⟨fun i hi => by
    obtain ⟨h1, h2, o, h3, h4, h5⟩ := h.1 i hi
    exact ⟨h1, h2, o, h3, h4, kp_put (fun q => by rw [q, hr] at h4; cases h4) h5⟩, kp_put (Ne.symm hne) h.2.1, fun a z q h1 h2 => kp_put h1 (h.2.2 a z q h1 h2)⟩
theorem rInv.step (h : rInv G rd eb b nb mn fn M0 M) (hr : M0 rd = some y) (he : M0 eb = some y2) (hn : ∀ o, M o = none → M0 o = none) (hp : rPos b nb mn = pl) (hO : rOP G rd eb x mn fn (tSg b nb pl) (tPart b nb (tSg b nb pl) pl) M M1) : ∃ fn', rInv G rd eb b nb (if (tPart b nb (tSg b nb pl) pl).2.1 then mn + 1 else mn) fn' M0 M1 := by
  obtain ⟨o, h1, h2, h3, h4⟩ := hO
  cases hw : (tPart b nb (tSg b nb pl) pl).2.1 with
  | false =>
    rw [hw] at h3
    refine ⟨fn, fun i hi => ?_, h3, fun a z q q1 q2 => h4 a z (h.2.2 a z q q1 q2) q1 q2⟩
    obtain ⟨g1, g2, o2, g3, g4, g5⟩ := h.1 i hi
    exact ⟨g1, g2, o2, g3, g4, h4 o2 _ g5 (fun q => by rw [q, hr] at g4; cases g4) (fun q => by rw [q, he] at g4; cases g4)⟩
  | true =>
    rw [hw] at h3
    refine ⟨va_up fn mn (some o), fun i hi => ?_, h3, fun a z q q1 q2 => h4 a z (h.2.2 a z q q1 q2) q1 q2⟩
    obtain ⟨k1, k2⟩ := h1 hw
    rcases Nat.lt_or_ge i mn with c | c
    · obtain ⟨g1, g2, o2, g3, g4, g5⟩ := h.1 i c
      exact ⟨g1, g2, o2, (va_up_ne _ _ (by omega)).trans g3, g4, h4 o2 _ g5 (fun q => by rw [q, hr] at g4; cases g4) (fun q => by rw [q, he] at g4; cases g4)⟩
    · have hi2 : i < mn + 1 := hi
      obtain rfl : i = mn := by omega
      rw [hp]
      exact ⟨tPart_lt hw, hw, o, va_up_self _ _ _, hn o k1, k2⟩
theorem rInv.none (h : rInv G rd eb b nb mn fn M0 M) (hr : M rd = some y) {o : Nat} (q : M o = none) : M0 o = none := by
  cases h2 : M0 o with
  | none => rfl
  | some z =>
    by_cases e1 : o = rd
    · rw [e1, hr] at q; cases q
    · by_cases e2 : o = eb
      · rw [e2, h.2.1] at q; cases q
      · rw [h.2.2 o z h2 e1 e2] at q; cases q
theorem rPos_s (hp : rPos b nb mn = pl) (hw : (tPart b nb (tSg b nb pl) pl).2.1 = true) : rPos b nb (if (tPart b nb (tSg b nb pl) pl).2.1 then mn + 1 else mn) = (tPart b nb (tSg b nb pl) pl).1 + 1 := by
  rw [hw]
  show (tPart b nb (tSg b nb (rPos b nb mn)) (rPos b nb mn)).1 + 1 = _
  rw [hp]
end RDA
