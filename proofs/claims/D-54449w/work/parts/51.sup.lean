/-! CHANGES OF A STATE'S PARTS: which part keeps which place of the row -/
def sOw (j : Nat) : Nat :=
  if j < 16 then 40 + j else if j < 32 then 40 + (j - 16) else if j < 48 then 40 + (j - 32) else if j < 52 then 10 + (j - 48) else if j < 56 then 10 + (j - 52) else if j < 60 then 10 + (j - 56) else if j < 64 then 10 + (j - 60)
  else if j < 88 then 30 + (j - 64) / 6 else if j = 88 then 0 else if j = 89 then 1000 else if j < 96 then 60 + (j - 90) else if j < 114 then 80 + (j - 96) else if j < 116 then 0 else if j < 120 then 4 else if j < 126 then 5
  else if j < 846 then 100 + (j - 126) / 40 else if j < 1566 then 120 + (j - 846) / 40 else 1000
theorem sSl_congr {r r' : Nat → Int32} {a n : Nat} (h : ∀ j, j < n → r' (a + j) = r (a + j)) : sSl r a n = sSl r' a n := by
  funext j
  unfold sSl
  by_cases q : j < n
  · rw [if_pos q, if_pos q, h j q]
  · rw [if_neg q, if_neg q]
theorem sSl_up {r : Nat → Int32} {a n j j0 : Nat} {x : Int32} (hj : j < n) (h0 : j0 = a + j) : va_up (sSl r a n) j x = sSl (va_up r j0 x) a n := by
  subst h0
  funext i
  unfold sSl va_up
  by_cases q : i = j
  · subst q
    simp [hj]
  · rw [if_neg q]
    dsimp only
    rw [if_neg (show ¬ a + i = a + j by omega)]
theorem sSf_up {f : Nat → UInt32} {a n j j0 : Nat} {x : UInt32} (hj : j < n) (h0 : j0 = a + j) : va_up (sSf f a n) j x = sSf (va_up f j0 x) a n := by
  subst h0
  funext i
  unfold sSf va_up
  by_cases q : i = j
  · subst q
    simp [hj]
  · rw [if_neg q]
    dsimp only
    rw [if_neg (show ¬ a + i = a + j by omega)]
theorem sSl_at {r : Nat → Int32} {a n j : Nat} (h : j < n) : sSl r a n j = r (a + j) := if_pos h
theorem sSf_at {f : Nat → UInt32} {a n j : Nat} (h : j < n) : sSf f a n j = f (a + j) := if_pos h
theorem sSa_at {ad : Nat → Nat} {a n j : Nat} (h : j < n) : sSa ad a n j = some (ad (a + j)) := if_pos h
section SU0
variable {G : mG} {ad : Nat → Nat} {n : Nat} {r r' : Nat → Int32} {f f' : Nat → UInt32} {dv dv' : Nat → Int32} {M0 : mM}
theorem sC_own {i : Nat} (hn : n ≤ 6) (hi : sL n i) (h : ∀ j, sOw j = i → r' j = r j) : sC G ad n r f dv i = sC G ad n r' f dv i := by
  have ow : ∀ j, (if j < 16 then 40 + j else if j < 32 then 40 + (j - 16) else if j < 48 then 40 + (j - 32) else if j < 52 then 10 + (j - 48) else if j < 56 then 10 + (j - 52) else if j < 60 then 10 + (j - 56) else if j < 64 then 10 + (j - 60)
    else if j < 88 then 30 + (j - 64) / 6 else if j = 88 then 0 else if j = 89 then 1000 else if j < 96 then 60 + (j - 90) else if j < 114 then 80 + (j - 96) else if j < 116 then 0 else if j < 120 then 4 else if j < 126 then 5
    else if j < 846 then 100 + (j - 126) / 40 else if j < 1566 then 120 + (j - 846) / 40 else 1000) = i → r' j = r j := h
  rcases hi with q | q | q | q | q | q | q | q | q | q | q
  · have : i = 0 ∨ i = 1 ∨ i = 2 ∨ i = 3 ∨ i = 4 ∨ i = 5 := by omega
    rcases this with rfl | rfl | rfl | rfl | rfl | rfl
    · show eO 1 (sF0 ad r) = eO 1 (sF0 ad r')
      unfold sF0
      rw [ow 88 rfl, ow 114 rfl, ow 115 rfl]
    · rfl
    · rfl
    · rfl
    · show eI (G.2.1 0) 4 (sSl r 116 4) = eI (G.2.1 0) 4 (sSl r' 116 4)
      rw [sSl_congr (fun j hj => ow (116 + j) (by have : j = 0 ∨ j = 1 ∨ j = 2 ∨ j = 3 := by omega
                                                  rcases this with rfl | rfl | rfl | rfl <;> rfl))]
    · show eI (G.2.1 0) 6 (sSl r 120 6) = eI (G.2.1 0) 6 (sSl r' 120 6)
      rw [sSl_congr (fun j hj => ow (120 + j) (by have : j = 0 ∨ j = 1 ∨ j = 2 ∨ j = 3 ∨ j = 4 ∨ j = 5 := by omega
                                                  rcases this with rfl | rfl | rfl | rfl | rfl | rfl <;> rfl))]
  · obtain ⟨d, rfl⟩ : ∃ d, i = 10 + d := ⟨i - 10, by omega⟩
    rw [sC_D (by omega), sC_D (by omega)]
    unfold sFD
    rw [ow (48 + d) (by simp only [if_neg (show ¬ 48 + d < 16 by omega), if_neg (show ¬ 48 + d < 32 by omega), if_neg (show ¬ 48 + d < 48 by omega), if_pos (show 48 + d < 52 by omega)]; omega),
      ow (52 + d) (by simp only [if_neg (show ¬ 52 + d < 16 by omega), if_neg (show ¬ 52 + d < 32 by omega), if_neg (show ¬ 52 + d < 48 by omega), if_neg (show ¬ 52 + d < 52 by omega), if_pos (show 52 + d < 56 by omega)]; omega),
      ow (56 + d) (by simp only [if_neg (show ¬ 56 + d < 16 by omega), if_neg (show ¬ 56 + d < 32 by omega), if_neg (show ¬ 56 + d < 48 by omega), if_neg (show ¬ 56 + d < 52 by omega), if_neg (show ¬ 56 + d < 56 by omega), if_pos (show 56 + d < 60 by omega)]; omega),
      ow (60 + d) (by simp only [if_neg (show ¬ 60 + d < 16 by omega), if_neg (show ¬ 60 + d < 32 by omega), if_neg (show ¬ 60 + d < 48 by omega), if_neg (show ¬ 60 + d < 52 by omega), if_neg (show ¬ 60 + d < 56 by omega), if_neg (show ¬ 60 + d < 60 by omega), if_pos (show 60 + d < 64 by omega)]; omega)]
  · obtain ⟨d, rfl⟩ : ∃ d, i = 20 + d := ⟨i - 20, by omega⟩
    rw [sC_A (by omega), sC_A (by omega)]
  · obtain ⟨d, rfl⟩ : ∃ d, i = 30 + d := ⟨i - 30, by omega⟩
    rw [sC_L (by omega), sC_L (by omega), sSl_congr (fun j hj => ow (64 + 6 * d + j) (by
      repeat rw [if_neg (by omega)]
      rw [if_pos (by omega)]
      omega))]
  · obtain ⟨d, rfl⟩ : ∃ d, i = 40 + d := ⟨i - 40, by omega⟩
    rw [sC_H (by omega), sC_H (by omega)]
    unfold sFH
    rw [ow (0 + d) (by rw [if_pos (by omega)]; omega), ow (16 + d) (by rw [if_neg (by omega), if_pos (by omega)]; omega), ow (32 + d) (by rw [if_neg (by omega), if_neg (by omega), if_pos (by omega)]; omega)]
  · obtain ⟨d, rfl⟩ : ∃ d, i = 60 + d := ⟨i - 60, by omega⟩
    rw [sC_P (by omega), sC_P (by omega)]
    unfold sFP
    rw [ow (90 + d) (by
      repeat rw [if_neg (by omega)]
      rw [if_pos (by omega)]
      omega)]
  · obtain ⟨d, rfl⟩ : ∃ d, i = 70 + d := ⟨i - 70, by omega⟩
    rw [sC_U (by omega), sC_U (by omega)]
  · obtain ⟨d, rfl⟩ : ∃ d, i = 80 + d := ⟨i - 80, by omega⟩
    rw [sC_S (by omega), sC_S (by omega)]
    unfold sFS
    rw [ow (96 + d) (by
      repeat rw [if_neg (by omega)]
      rw [if_pos (by omega)]
      omega)]
  · obtain ⟨d, rfl⟩ : ∃ d, i = 100 + d := ⟨i - 100, by omega⟩
    rw [sC_V (by omega), sC_V (by omega), sSl_congr (fun j hj => ow (126 + 40 * d + j) (by
      repeat rw [if_neg (by omega)]
      rw [if_pos (by omega)]
      omega))]
  · obtain ⟨d, rfl⟩ : ∃ d, i = 120 + d := ⟨i - 120, by omega⟩
    rw [sC_O (by omega), sC_O (by omega), sSl_congr (fun j hj => ow (846 + 40 * d + j) (by
      repeat rw [if_neg (by omega)]
      rw [if_pos (by omega)]
      omega))]
  · obtain ⟨d, rfl⟩ : ∃ d, i = 140 + d := ⟨i - 140, by omega⟩
    rw [sC_F, sC_F]
theorem sM_upr (hd : sAd n ad) (hn : n ≤ 6) {j0 i0 : Nat} {x : Int32} (hi : sL n i0) (ho : sOw j0 = i0) {e : mE} (he : e = sC G ad n (va_up r j0 x) f dv i0) : mup (sM G ad n r f dv M0) (ad i0) e = sM G ad n (va_up r j0 x) f dv M0 :=
  lay_up hd hi he (fun j hj hne => sC_own hn hj (fun q hq => va_up_ne _ _ (fun e2 => hne (by rw [← hq, e2, ho]))))
end SU0
