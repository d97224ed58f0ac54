/-! THE TEXT READER'S NUMBERS: what its small methods answer, in the reference's words -/
/-- the letter there; behind the end a blank -/
def rSg (b : Nat → Int32) (nb pl : Nat) : Int32 := if pl < nb then b pl else nI 32
/-- the reader's mark for wrong -/
def rW (w : Bool) : Int32 := if w then nI 0 else nI 1
theorem nZ_rW (w : Bool) : narrow .boolean (.int (rW w)) = .int (rW w) := by cases w <;> rfl
theorem fZ_rW (w : Bool) : fits .boolean (.int (rW w)) = true := by cases w <;> rfl
theorem rW_0 {w : Bool} (h : rW w = 0) : w = true := by
  cases w
  · exact absurd h (by decide)
  · rfl
theorem rW_1 {w : Bool} (h : ¬ rW w = 0) : w = false := by
  cases w
  · rfl
  · exact absurd rfl h
theorem rW_o0 (w : Bool) : rW w ||| nI 0 = rW w := by cases w <;> decide
theorem rW_o1 (w : Bool) : rW w ||| nI 1 = rW false := by cases w <;> decide
/-- the letters of a text -/
def rTx (b t : Nat → Int32) (nb : Nat) : Prop := ∀ j, j < nb → ∃ c, 32 ≤ c ∧ c < 127 ∧ t j = nI c ∧ b j = nI c
section RDR
variable {b t : Nat → Int32} {nb pl : Nat} {w : Bool}
theorem rSg_or (hb : rTx b t nb) : (pl < nb ∧ ∃ c, 32 ≤ c ∧ c < 127 ∧ rSg b nb pl = nI c ∧ tSg b nb pl = nI c) ∨ (¬ pl < nb ∧ rSg b nb pl = nI 32 ∧ tSg b nb pl = nI 0) := by
  by_cases h : pl < nb
  · obtain ⟨c, h1, h2, h3, h4⟩ := hb pl h
    exact Or.inl ⟨h, c, h1, h2, (if_pos h).trans h4, (if_pos h).trans h4⟩
  · exact Or.inr ⟨h, if_neg h, if_neg h⟩
theorem nI_nat_eq {a c : Nat} (ha : a < 2 ^ 31) (hc : c < 2 ^ 31) : nI a = nI c ↔ a = c := ⟨nK_inj ha hc, fun h => by rw [h]⟩
theorem rSg_is (hb : rTx b t nb) {k : Nat} (h1 : 33 ≤ k) (h2 : k < 127) : rSg b nb pl = nI k ↔ (nI k ≤ tSg b nb pl ∧ tSg b nb pl ≤ nI k) := by
  rcases rSg_or (pl := pl) hb with ⟨-, c, g1, g2, g3, g4⟩ | ⟨-, g3, g4⟩
  · rw [g3, g4, nK_le (by omega) (by omega), nK_le (by omega) (by omega), nI_nat_eq (by omega) (by omega)]
    omega
  · rw [g3, g4, nK_le (by omega) (by omega), nK_le (by omega) (by omega), nI_nat_eq (by omega) (by omega)]
    omega
theorem rS_t (hb : rTx b t nb) {k : Nat} (h1 : 33 ≤ k) (h2 : k < 127) (h : rSg b nb pl = nI k) : tNd b nb (nI k) (nI k) pl w = w := by
  cases w
  · exact tNd_f1 rfl
  · exact tNd_t rfl ((rSg_is hb h1 h2).mp h)
theorem rS_f (hb : rTx b t nb) {k : Nat} (h1 : 33 ≤ k) (h2 : k < 127) (h : ¬ rSg b nb pl = nI k) : tNd b nb (nI k) (nI k) pl w = false :=
  tNd_f2 (fun q => h ((rSg_is hb h1 h2).mpr q))
/-- a number's highest first digit -/
def rHi (g : Nat) : Int32 := nI (48 + min g 9)
/-- a number read -/
def rNum (b : Nat → Int32) (nb g pl : Nat) (w : Bool) : Nat × Int32 :=
  if tNd b nb (nI 48) (rHi g) pl w = true ∧ 0 < tSg b nb pl - nI 48 then tNl b nb g (nb - tAdv (tNd b nb (nI 48) (rHi g) pl w) pl) (tAdv (tNd b nb (nI 48) (rHi g) pl w) pl) (tSg b nb pl - nI 48)
  else (tAdv (tNd b nb (nI 48) (rHi g) pl w) pl, tSg b nb pl - nI 48)
theorem rD_int (hb : rTx b t nb) : (rSg b nb pl - nI 48).toInt = (rSg b nb pl).toInt - 48 ∧ 0 ≤ (rSg b nb pl).toInt ∧ (rSg b nb pl).toInt < 127 := by
  have h : ∀ c : Nat, c < 127 → (nI c - nI 48).toInt = (nI c).toInt - 48 ∧ 0 ≤ (nI c).toInt ∧ (nI c).toInt < 127 := fun c hc => by
    rw [i_sub (A := 127) (B := 48) (bnd_nI (by omega) (by omega)) (bnd_nI (by omega) (by omega)) (by decide), nI_toInt (by omega), nI_toInt (by omega)]
    exact ⟨rfl, by omega, by omega⟩
  rcases rSg_or (pl := pl) hb with ⟨-, c, g1, g2, g3, -⟩ | ⟨-, g3, -⟩
  · rw [g3]; exact h c g2
  · rw [g3]; exact h 32 (by decide)
theorem rN_no (hb : rTx b t nb) {g : Nat} (h : rSg b nb pl - nI 48 < 0 ∨ nI 9 < rSg b nb pl - nI 48 ∨ (g < 2 ^ 30 ∧ ¬ rSg b nb pl - nI 48 ≤ nI g)) : tNd b nb (nI 48) (rHi g) pl w = false := by
  refine tNd_f2 (fun q => ?_)
  obtain ⟨e1, e2, e3⟩ := rD_int (pl := pl) hb
  unfold rHi at q
  have t0 : (0 : Int32).toInt = 0 := Int32.toInt_zero
  have t9 : (nI 9).toInt = 9 := by decide
  rcases rSg_or (pl := pl) hb with ⟨-, c, g1, g2, g3, g4⟩ | ⟨-, g3, g4⟩
  · rw [g4, nK_le (by omega) (by omega), nK_le (by omega) (by omega)] at q
    rw [g3, nI_toInt (by omega)] at e1
    rw [g3] at h
    rcases h with h | h | ⟨hg, h⟩
    · rw [Int32.lt_iff_toInt_lt, e1, t0] at h; omega
    · rw [Int32.lt_iff_toInt_lt, e1, t9] at h; omega
    · rw [Int32.le_iff_toInt_le, e1, nI_toInt (by omega)] at h; omega
  · rw [g4, nK_le (by omega) (by omega)] at q
    omega
theorem rN_ok (hb : rTx b t nb) {g : Nat} (hg : g < 2 ^ 30) (h1 : ¬ rSg b nb pl - nI 48 < 0) (h2 : ¬ nI 9 < rSg b nb pl - nI 48) (h3 : rSg b nb pl - nI 48 ≤ nI g) : tNd b nb (nI 48) (rHi g) pl w = w ∧ pl < nb ∧ rSg b nb pl = tSg b nb pl ∧ ∃ d, d ≤ 9 ∧ d ≤ g ∧ rSg b nb pl - nI 48 = nI d := by
  obtain ⟨e1, e2, e3⟩ := rD_int (pl := pl) hb
  have t0 : (0 : Int32).toInt = 0 := Int32.toInt_zero
  have t9 : (nI 9).toInt = 9 := by decide
  rw [Int32.lt_iff_toInt_lt, e1, t0] at h1
  rw [Int32.lt_iff_toInt_lt, e1, t9] at h2
  rw [Int32.le_iff_toInt_le, e1, nI_toInt (by omega)] at h3
  rcases rSg_or (pl := pl) hb with ⟨g0, c, g1, g2, g3, g4⟩ | ⟨-, g3, g4⟩
  · rw [g3, nI_toInt (by omega)] at h1 h2 h3
    refine ⟨?_, g0, g3.trans g4.symm, c - 48, by omega, by omega, by rw [g3]; exact nK_subt (by omega)⟩
    cases w
    · exact tNd_f1 rfl
    · refine tNd_t rfl ?_
      unfold rHi
      rw [g4, nK_le (by omega) (by omega), nK_le (by omega) (by omega)]
      omega
  · rw [g3, nI_toInt (by omega)] at h1
    omega
theorem rNum_b {g : Nat} (h : tNd b nb (nI 48) (rHi g) pl w = false) : rNum b nb g pl w = (pl, tSg b nb pl - nI 48) := by
  unfold rNum
  rw [h, if_neg (fun q => by cases q.1)]
  rfl
theorem rNum_z {g : Nat} (h : tNd b nb (nI 48) (rHi g) pl w = true) (h0 : ¬ 0 < tSg b nb pl - nI 48) : rNum b nb g pl w = (pl + 1, tSg b nb pl - nI 48) := by
  unfold rNum
  rw [h, if_neg (fun q => h0 q.2)]
  rfl
theorem rNum_l {g : Nat} (h : tNd b nb (nI 48) (rHi g) pl w = true) (h0 : 0 < tSg b nb pl - nI 48) : rNum b nb g pl w = tNl b nb g (nb - (pl + 1)) (pl + 1) (tSg b nb pl - nI 48) := by
  unfold rNum
  rw [h, if_pos ⟨rfl, h0⟩]
  rfl
/-- one digit more -/
theorem rL_no {g j sp : Nat} {v : Int32} (h : ¬ ((nI 48 ≤ tSg b nb sp ∧ tSg b nb sp ≤ nI 57) ∧ ¬ nI g < nI 10 * v + tSg b nb sp - nI 48)) : tNl b nb g j sp v = (sp, v) := by
  cases j with
  | zero => rfl
  | succ j =>
    unfold tNl
    exact if_neg h
theorem rL_go {g j sp : Nat} {v : Int32} (h : (nI 48 ≤ tSg b nb sp ∧ tSg b nb sp ≤ nI 57) ∧ ¬ nI g < nI 10 * v + tSg b nb sp - nI 48) : tNl b nb g (j + 1) sp v = tNl b nb g j (sp + 1) (nI 10 * v + tSg b nb sp - nI 48) := by
  conv => lhs; unfold tNl
  exact if_pos h
/-- the digit there, as a number -/
theorem rL_dig (hb : rTx b t nb) {sp : Nat} (h1 : ¬ rSg b nb sp < nI 48) (h2 : ¬ nI 57 < rSg b nb sp) : sp < nb ∧ rSg b nb sp = tSg b nb sp ∧ (nI 48 ≤ tSg b nb sp ∧ tSg b nb sp ≤ nI 57) ∧ ∃ d, d ≤ 9 ∧ rSg b nb sp = nI (48 + d) := by
  rcases rSg_or (pl := sp) hb with ⟨g0, c, g1, g2, g3, g4⟩ | ⟨-, g3, g4⟩
  · rw [g3, nK_lt (by omega) (by omega)] at h1
    rw [g3, nK_lt (by omega) (by omega)] at h2
    refine ⟨g0, g3.trans g4.symm, ?_, c - 48, by omega, by rw [g3, show 48 + (c - 48) = c by omega]⟩
    rw [g4, nK_le (by omega) (by omega), nK_le (by omega) (by omega)]
    omega
  · rw [g3] at h1
    exact absurd (by decide) h1
theorem rL_out (hb : rTx b t nb) {g sp : Nat} {v : Int32} (h : rSg b nb sp < nI 48 ∨ nI 57 < rSg b nb sp) : ¬ ((nI 48 ≤ tSg b nb sp ∧ tSg b nb sp ≤ nI 57) ∧ ¬ nI g < nI 10 * v + tSg b nb sp - nI 48) := by
  rintro ⟨⟨q1, q2⟩, -⟩
  rcases rSg_or (pl := sp) hb with ⟨g0, c, g1, g2, g3, g4⟩ | ⟨-, g3, g4⟩
  · rw [g4, nK_le (by omega) (by omega)] at q1 q2
    rw [g3, nK_lt (by omega) (by omega), nK_lt (by omega) (by omega)] at h
    omega
  · rw [g4, nK_le (by omega) (by omega)] at q1
    omega
theorem rL_val {v d : Nat} (h : v < 1000) (hd : d ≤ 9) (h0 : 0 < v) : nI 10 * nI v + nI (48 + d) - nI 48 = nI (10 * v + d) := by
  rw [nK_mul, nK_add, show 10 * v + (48 + d) = (10 * v + d) + 48 by omega, ← nK_add (10 * v + d) 48, Int32.add_sub_cancel]
end RDR
theorem tAdv_1 (w : Bool) (sp : Nat) : tAdv w sp ≤ sp + 1 := by
  unfold tAdv
  split <;> omega
