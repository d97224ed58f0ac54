/-! THE TEXT READER'S ORDERS: which lambda, with which numbers -/
def rSite (L : Int32) : Nat := if L = nI 109 then 0 else if L = nI 117 then 4 else if L = nI 115 then 5 else if L = nI 119 then 6 else if L = nI 114 then 7 else if L = nI 118 then 8 else if L = nI 99 then 9 else 10
def rVals (L a b c : Int32) : List Value := if L = nI 117 ∨ L = nI 99 then [.int a] else if L = nI 119 then [.int a, .int b, .int c] else [.int a, .int b]
/-- an order object -/
abbrev rOb (G : mG) (L a b c : Int32) : mE := .inr (lamC (G.2.1 (20 + rSite L)) (rVals L a b c))
section RDP
variable {b t : Nat → Int32} {nb pl : Nat} {w : Bool}
theorem rNum_s (hb : rTx b t nb) {g : Nat} (hg : g ≤ 9) : rNum b nb g pl w = (tAdv (tNd b nb (nI 48) (rHi g) pl w) pl, tSg b nb pl - nI 48) := by
  by_cases hw : tNd b nb (nI 48) (rHi g) pl w = true
  · by_cases h0 : 0 < tSg b nb pl - nI 48
    · rw [rNum_l hw h0, hw]
      refine (rL_no ?_).trans rfl
      rintro ⟨⟨q1, q2⟩, q3⟩
      obtain ⟨-, w2, w3⟩ := tNd_in hw
      unfold rHi at w3
      rcases rSg_or (pl := pl) hb with ⟨-, c, g1, g2, -, g4⟩ | ⟨-, -, g4⟩
      · rw [g4, nK_le (by omega) (by omega)] at w2 w3
        rcases rSg_or (pl := pl + 1) hb with ⟨-, c2, g5, g6, -, g8⟩ | ⟨-, -, g8⟩
        · rw [g8, nK_le (by omega) (by omega)] at q1 q2
          rw [g4, nK_subt w2] at h0 q3
          have h1 : 0 < c - 48 := Nat.pos_of_ne_zero (fun q => by rw [q] at h0; exact absurd h0 (by decide))
          rw [g8, show c2 = 48 + (c2 - 48) by omega, rL_val (by omega) (by omega) h1, nK_lt (by omega) (by omega)] at q3
          omega
        · rw [g8] at q1
          exact absurd q1 (by decide)
      · rw [g4] at w2
        exact absurd w2 (by decide)
    · rw [rNum_z hw h0, hw]
      rfl
  · have hf : tNd b nb (nI 48) (rHi g) pl w = false := by
      cases h : tNd b nb (nI 48) (rHi g) pl w
      · rfl
      · exact absurd h hw
    rw [rNum_b hf, hf]
    rfl
theorem rSg_cs (hb : rTx b t nb) : (rSg b nb pl = nI 99 ∨ rSg b nb pl = nI 100 ∨ rSg b nb pl = nI 101 ∨ rSg b nb pl = nI 102 ∨ rSg b nb pl = nI 103 ∨ rSg b nb pl = nI 104 ∨ rSg b nb pl = nI 105 ∨ rSg b nb pl = nI 106 ∨ rSg b nb pl = nI 107 ∨ rSg b nb pl = nI 108 ∨ rSg b nb pl = nI 109 ∨ rSg b nb pl = nI 110 ∨ rSg b nb pl = nI 111 ∨ rSg b nb pl = nI 112 ∨ rSg b nb pl = nI 113 ∨ rSg b nb pl = nI 114 ∨ rSg b nb pl = nI 115 ∨ rSg b nb pl = nI 116 ∨ rSg b nb pl = nI 117 ∨ rSg b nb pl = nI 118 ∨ rSg b nb pl = nI 119) ∨ ∃ c, c < 127 ∧ rSg b nb pl = nI c ∧ (c < 99 ∨ 119 < c) := by
  obtain ⟨c, hc, he⟩ : ∃ c, c < 127 ∧ rSg b nb pl = nI c := by
    rcases rSg_or (pl := pl) hb with ⟨-, c, -, g2, g3, -⟩ | ⟨-, g3, -⟩
    · exact ⟨c, g2, g3⟩
    · exact ⟨32, by decide, g3⟩
  by_cases h : c < 99 ∨ 119 < c
  · exact Or.inr ⟨c, hc, he, h⟩
  · left
    rw [he]
    have : c = 99 ∨ c = 100 ∨ c = 101 ∨ c = 102 ∨ c = 103 ∨ c = 104 ∨ c = 105 ∨ c = 106 ∨ c = 107 ∨ c = 108 ∨ c = 109 ∨ c = 110 ∨ c = 111 ∨ c = 112 ∨ c = 113 ∨ c = 114 ∨ c = 115 ∨ c = 116 ∨ c = 117 ∨ c = 118 ∨ c = 119 := by omega
    rcases this with rfl | rfl | rfl | rfl | rfl | rfl | rfl | rfl | rfl | rfl | rfl | rfl | rfl | rfl | rfl | rfl | rfl | rfl | rfl | rfl | rfl <;> simp
/-- a letter there is the reference's letter there -/
theorem rSg_L (hb : rTx b t nb) {k : Nat} (h1 : 33 ≤ k) (h2 : k < 127) (h : rSg b nb pl = nI k) : pl < nb ∧ tSg b nb pl = nI k := by
  rcases rSg_or (pl := pl) hb with ⟨g0, c, g1, g2, g3, g4⟩ | ⟨-, g3, -⟩
  · exact ⟨g0, by rw [g4, ← g3, h]⟩
  · rw [h, nI_nat_eq (by omega) (by omega)] at g3
    omega
theorem tP1_no {L : Int32} (h : ∀ k, (k = 109 ∨ k = 117 ∨ k = 115 ∨ k = 119 ∨ k = 114 ∨ k = 118 ∨ k = 99 ∨ k = 102) → ¬ L = nI k) : tP1 L = false := by
  unfold tP1
  rw [decide_eq_false_iff_not]
  rintro (q | q | q | q | q | q | q | q)
  · exact h 109 (by decide) q
  · exact h 117 (by decide) q
  · exact h 115 (by decide) q
  · exact h 119 (by decide) q
  · exact h 114 (by decide) q
  · exact h 118 (by decide) q
  · exact h 99 (by decide) q
  · exact h 102 (by decide) q
/-- no order begins there -/
theorem rP_no (h : tP1 (tSg b nb pl) = false) : (tPart b nb (tSg b nb pl) pl).1 = pl ∧ (tPart b nb (tSg b nb pl) pl).2.1 = false := by
  have hn : ∀ k, (k = 109 ∨ k = 117 ∨ k = 115 ∨ k = 119 ∨ k = 114 ∨ k = 118 ∨ k = 99 ∨ k = 102) → ¬ tSg b nb pl = nI k := by
    intro k hk q
    unfold tP1 at h
    rw [decide_eq_false_iff_not, q] at h
    rcases hk with rfl | rfl | rfl | rfl | rfl | rfl | rfl | rfl <;> exact h (by simp)
  unfold tPart
  simp only [h]
  have f : ∀ lo hi sp, tNd b nb lo hi sp false = false := fun _ _ _ => tNd_f1 rfl
  have a : ∀ sp, tAdv false sp = sp := fun _ => rfl
  rw [if_neg (hn 109 (by decide)), if_neg (hn 115 (by decide)), if_neg (fun q => q.elim (hn 119 (by decide)) (fun q => q.elim (hn 114 (by decide)) (hn 102 (by decide)))), if_neg (hn 118 (by decide))]
  simp only [f, a]
  exact ⟨trivial, trivial⟩
/-- behind a first number up to g -/
abbrev rW2 (b : Nat → Int32) (nb g pl : Nat) : Bool := tNd b nb (nI 48) (rHi g) (pl + 1) true
abbrev rN2 (b : Nat → Int32) (nb g pl : Nat) : Nat × Int32 := rNum b nb g (pl + 1) true
/-- behind a sign k and a number up to g -/
abbrev rWK (b : Nat → Int32) (nb k sp : Nat) (w : Bool) : Bool := tNd b nb (nI k) (nI k) sp w
abbrev rWA (b : Nat → Int32) (nb k g sp : Nat) (w : Bool) : Bool := tNd b nb (nI 48) (rHi g) (tAdv (rWK b nb k sp w) sp) (rWK b nb k sp w)
abbrev rNA (b : Nat → Int32) (nb k g sp : Nat) (w : Bool) : Nat × Int32 := rNum b nb g (tAdv (rWK b nb k sp w) sp) (rWK b nb k sp w)
theorem rP_m (hb : rTx b t nb) : tPart b nb (nI 109) pl = ((rNA b nb 61 5 (rN2 b nb 3 pl).1 (rW2 b nb 3 pl)).1, rWA b nb 61 5 (rN2 b nb 3 pl).1 (rW2 b nb 3 pl), (rN2 b nb 3 pl).2, (rNA b nb 61 5 (rN2 b nb 3 pl).1 (rW2 b nb 3 pl)).2, nI 0) := by
  simp only [rNA, rN2, rWA, rWK, rW2]
  rw [rNum_s hb (show 3 ≤ 9 by decide), rNum_s hb (show 5 ≤ 9 by decide)]
  rfl
theorem rP_s (hb : rTx b t nb) : tPart b nb (nI 115) pl = ((rNA b nb 58 39 (rN2 b nb 3 pl).1 (rW2 b nb 3 pl)).1, rWA b nb 58 39 (rN2 b nb 3 pl).1 (rW2 b nb 3 pl), (rN2 b nb 3 pl).2, (rNA b nb 58 39 (rN2 b nb 3 pl).1 (rW2 b nb 3 pl)).2, nI 0) := by
  simp only [rNA, rN2, rWA, rWK, rW2]
  rw [rNum_s hb (show 3 ≤ 9 by decide)]
  rfl
theorem rP_r (hb : rTx b t nb) : tPart b nb (nI 114) pl = ((rNA b nb 46 2 (rN2 b nb 3 pl).1 (rW2 b nb 3 pl)).1, rWA b nb 46 2 (rN2 b nb 3 pl).1 (rW2 b nb 3 pl), (rN2 b nb 3 pl).2, (rNA b nb 46 2 (rN2 b nb 3 pl).1 (rW2 b nb 3 pl)).2, nI 0) := by
  simp only [rNA, rN2, rWA, rWK, rW2]
  rw [rNum_s hb (show 3 ≤ 9 by decide), rNum_s hb (show 2 ≤ 9 by decide)]
  rfl
theorem rP_f (hb : rTx b t nb) : tPart b nb (nI 102) pl = ((rNA b nb 46 3 (rN2 b nb 3 pl).1 (rW2 b nb 3 pl)).1, rWA b nb 46 3 (rN2 b nb 3 pl).1 (rW2 b nb 3 pl), (rN2 b nb 3 pl).2, (rNA b nb 46 3 (rN2 b nb 3 pl).1 (rW2 b nb 3 pl)).2, nI 0) := by
  simp only [rNA, rN2, rWA, rWK, rW2]
  simp only [rNum_s hb (show 3 ≤ 9 by decide)]
  rfl
theorem rP_u (hb : rTx b t nb) : tPart b nb (nI 117) pl = ((rN2 b nb 3 pl).1, rW2 b nb 3 pl, (rN2 b nb 3 pl).2, nI 0, nI 0) := by
  simp only [rNA, rN2, rWA, rWK, rW2]
  rw [rNum_s hb (show 3 ≤ 9 by decide)]
  rfl
theorem rP_c (hb : rTx b t nb) : tPart b nb (nI 99) pl = ((rN2 b nb 5 pl).1, rW2 b nb 5 pl, (rN2 b nb 5 pl).2, nI 0, nI 0) := by
  simp only [rNA, rN2, rWA, rWK, rW2]
  rw [rNum_s hb (show 5 ≤ 9 by decide)]
  rfl
abbrev rSA (b : Nat → Int32) (nb pl : Nat) : Nat := (rNA b nb 46 2 (rN2 b nb 3 pl).1 (rW2 b nb 3 pl)).1
abbrev rSW (b : Nat → Int32) (nb pl : Nat) : Bool := rWA b nb 46 2 (rN2 b nb 3 pl).1 (rW2 b nb 3 pl)
theorem rP_w (hb : rTx b t nb) : tPart b nb (nI 119) pl = ((rNA b nb 61 999 (rSA b nb pl) (rSW b nb pl)).1, rWA b nb 61 999 (rSA b nb pl) (rSW b nb pl), (rN2 b nb 3 pl).2, (rNA b nb 46 2 (rN2 b nb 3 pl).1 (rW2 b nb 3 pl)).2, (rNA b nb 61 999 (rSA b nb pl) (rSW b nb pl)).2) := by
  simp only [rNA, rN2, rWA, rWK, rW2, rSA, rSW]
  rw [rNum_s hb (show 3 ≤ 9 by decide), rNum_s hb (show 2 ≤ 9 by decide)]
  rfl
/-- the sign that turns -/
def rCh (b : Nat → Int32) (nb sp : Nat) : Nat := if rSg b nb sp = nI 43 then 43 else 45
theorem rCh_t {sp : Nat} (hb : rTx b t nb) : nI (rCh b nb sp) = (if tSg b nb sp = nI 43 then nI 43 else nI 45) ∧ (rSg b nb sp = nI 43 ↔ tSg b nb sp = nI 43) := by
  have h : rSg b nb sp = nI 43 ↔ tSg b nb sp = nI 43 := by
    rcases rSg_or (pl := sp) hb with ⟨-, c, -, -, g3, g4⟩ | ⟨-, g3, g4⟩
    · rw [g3, g4]
    · rw [g3, g4]
      exact ⟨fun q => absurd q (by decide), fun q => absurd q (by decide)⟩
  refine ⟨?_, h⟩
  unfold rCh
  by_cases q : rSg b nb sp = nI 43
  · rw [if_pos q, if_pos (h.mp q)]
  · rw [if_neg q, if_neg (fun z => q (h.mpr z))]
theorem rP_v (hb : rTx b t nb) : tPart b nb (nI 118) pl = (tAdv (rWK b nb (rCh b nb (rN2 b nb 3 pl).1) (rN2 b nb 3 pl).1 (rW2 b nb 3 pl)) (rN2 b nb 3 pl).1, rWK b nb (rCh b nb (rN2 b nb 3 pl).1) (rN2 b nb 3 pl).1 (rW2 b nb 3 pl), (rN2 b nb 3 pl).2, (if rSg b nb (rN2 b nb 3 pl).1 = nI 43 then nI 1 else nI 0), nI 0) := by
  obtain ⟨h1, h2⟩ := rCh_t (sp := (rN2 b nb 3 pl).1) hb
  simp only [rWK]
  rw [h1, show (if rSg b nb (rN2 b nb 3 pl).1 = nI 43 then nI 1 else nI 0) = (if tSg b nb (rN2 b nb 3 pl).1 = nI 43 then nI 1 else nI 0) by
    by_cases q : rSg b nb (rN2 b nb 3 pl).1 = nI 43
    · rw [if_pos q, if_pos (h2.mp q)]
    · rw [if_neg q, if_neg (fun z => q (h2.mpr z))]]
  simp only [rN2, rW2, rNum_s hb (show 3 ≤ 9 by decide)]
  rfl
/-- well behind: well before -/
theorem tNd_w {lo hi : Int32} {sp : Nat} {w : Bool} (h : tNd b nb lo hi sp w = true) : w = true := (tNd_in h).1
theorem rNum_le (hb : rTx b t nb) {g : Nat} (h : pl ≤ nb) : (rNum b nb g pl w).1 ≤ nb := by
  by_cases hw : tNd b nb (nI 48) (rHi g) pl w = true
  · have hlt : pl < nb := tSg_lt (tNd_in hw).2.1 (by decide)
    by_cases h0 : 0 < tSg b nb pl - nI 48
    · rw [rNum_l hw h0]
      exact tNl_le _ _ _ (by omega)
    · rw [rNum_z hw h0]
      exact hlt
  · have hf : tNd b nb (nI 48) (rHi g) pl w = false := by
      cases h : tNd b nb (nI 48) (rHi g) pl w
      · rfl
      · exact absurd h hw
    rw [rNum_b hf]
    exact h
theorem rWK_le {k sp : Nat} (hk : 1 ≤ k) (hk2 : k < 127) (h : sp ≤ nb) : tAdv (rWK b nb k sp w) sp ≤ nb := tAdv_le h ((nK_le (by omega) (by omega)).mpr hk)
end RDP
