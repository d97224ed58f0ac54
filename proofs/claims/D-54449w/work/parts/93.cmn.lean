/-! A STATE WITH ONE PACK MORE -/
noncomputable def adJ (n e3 : Nat) (ad ap : Nat → Nat) : Nat → Nat := fun i => if i = 3 then e3 else @ite _ (pLs n 3 i) (Classical.propDecidable _) (ap i) (ad i)
section PJ
variable {G : mG} {n e3 : Nat} {ad ap : Nat → Nat} {r : Nat → Int32} {f : Nat → UInt32} {dv : Nat → Int32} {M : mM}
theorem adJ_3 : adJ n e3 ad ap 3 = e3 := rfl
theorem adJ_p {i : Nat} (h : pLs n 3 i) : adJ n e3 ad ap i = ap i := by
  unfold adJ
  rw [if_neg (by unfold pLs at h; omega), if_pos h]
theorem adJ_s {i : Nat} (h3 : i ≠ 3) (h : ¬ pLs n 3 i) : adJ n e3 ad ap i = ad i := by
  unfold adJ
  rw [if_neg h3, if_neg h]
theorem sL_p {i : Nat} (hn : n < 6) (h : sL n i) : ¬ pLs n 3 i := by
  unfold sL at h
  unfold pLs
  omega
theorem sL_J {i : Nat} (hn : n < 6) (h : sL (n + 1) i) : i = 3 ∨ (i ≠ 3 ∧ sL n i) ∨ (i ≠ 3 ∧ pLs n 3 i) := by
  unfold sL at h
  unfold sL pLs
  omega
theorem adJ_inj (hn : n < 6) (hd : sAd n ad) (hi : lInj (pLs n 3) ap) (hne : ∀ i j, sL n i → pLs n 3 j → ad i ≠ ap j) (h3 : ∀ i, sL n i → i ≠ 3 → ad i ≠ e3) (h4 : ∀ j, pLs n 3 j → ap j ≠ e3) : sAd (n + 1) (adJ n e3 ad ap) := by
  intro i j a b e
  rcases sL_J hn a with rfl | ⟨i3, a⟩ | ⟨i3, a⟩ <;> rcases sL_J hn b with rfl | ⟨j3, b⟩ | ⟨j3, b⟩
  · rfl
  · rw [adJ_3, adJ_s j3 (sL_p hn b)] at e
    exact absurd e.symm (h3 _ b j3)
  · rw [adJ_3, adJ_p b] at e
    exact absurd e.symm (h4 _ b)
  · rw [adJ_3, adJ_s i3 (sL_p hn a)] at e
    exact absurd e (h3 _ a i3)
  · rw [adJ_s i3 (sL_p hn a), adJ_s j3 (sL_p hn b)] at e
    exact hd _ _ a b e
  · rw [adJ_s i3 (sL_p hn a), adJ_p b] at e
    exact absurd e (hne _ _ a b)
  · rw [adJ_3, adJ_p a] at e
    exact absurd e (h4 _ a)
  · rw [adJ_p a, adJ_s j3 (sL_p hn b)] at e
    exact absurd e.symm (hne _ _ b a)
  · rw [adJ_p a, adJ_p b] at e
    exact hi _ _ a b e
theorem sSa_eq {ad ad' : Nat → Nat} {a m : Nat} (h : ∀ j, j < m → ad (a + j) = ad' (a + j)) : sSa ad a m = sSa ad' a m := by
  funext j
  unfold sSa
  by_cases e : j < m
  · rw [if_pos e, if_pos e, h j e]
  · rw [if_neg e, if_neg e]
theorem sSa_up {ad : Nat → Nat} {a m : Nat} : va_up (sSa ad a m) m (some (ad (a + m))) = sSa ad a (m + 1) := by
  funext j
  unfold sSa va_up
  by_cases e : j = m
  · rw [if_pos e, if_pos (by omega), e]
  · rw [if_neg e]
    dsimp only
    by_cases e2 : j < m
    · rw [if_pos e2, if_pos (by omega)]
    · rw [if_neg e2, if_neg (by omega)]
/-- what the old parts hold -/
theorem sC_J (hn : n < 6) {i : Nat} (h : sL n i) (h2 : i ≠ 2) (h3 : i ≠ 3) : sC G (adJ n e3 ad ap) (n + 1) r f dv i = sC G ad n r f dv i := by
  have hs : ∀ {i : Nat}, i ≠ 3 → ¬ pLs n 3 i → adJ n e3 ad ap i = ad i := fun a b => adJ_s a b
  have hc : i = 0 ∨ i = 1 ∨ i = 4 ∨ i = 5 ∨ (∃ d, d < 4 ∧ i = 10 + d) ∨ (∃ d, d < 4 ∧ i = 20 + d) ∨ (∃ d, d < 4 ∧ i = 30 + d) ∨ (∃ d, d < 16 ∧ i = 40 + d) ∨ (∃ d, d < n ∧ i = 60 + d) ∨ (∃ d, d < n ∧ i = 70 + d) ∨ (∃ d, d < 3 * n ∧ i = 80 + d) ∨ (∃ d, d < 3 * n ∧ i = 100 + d) ∨ (∃ d, d < 3 * n ∧ i = 120 + d) ∨ (∃ d, d < 3 * n ∧ i = 140 + d) := by
    have w : ∀ b c, b ≤ i → i < b + c → ∃ d, d < c ∧ i = b + d := fun b c x y => ⟨i - b, by omega, by omega⟩
    unfold sL at h
    rcases h with h | h | h | h | h | h | h | h | h | h | h
    · omega
    · exact Or.inr (Or.inr (Or.inr (Or.inr (Or.inl (w 10 4 h.1 h.2)))))
    · exact Or.inr (Or.inr (Or.inr (Or.inr (Or.inr (Or.inl (w 20 4 h.1 h.2))))))
    · exact Or.inr (Or.inr (Or.inr (Or.inr (Or.inr (Or.inr (Or.inl (w 30 4 h.1 h.2)))))))
    · exact Or.inr (Or.inr (Or.inr (Or.inr (Or.inr (Or.inr (Or.inr (Or.inl (w 40 16 h.1 h.2))))))))
    · exact Or.inr (Or.inr (Or.inr (Or.inr (Or.inr (Or.inr (Or.inr (Or.inr (Or.inl (w 60 n h.1 h.2)))))))))
    · exact Or.inr (Or.inr (Or.inr (Or.inr (Or.inr (Or.inr (Or.inr (Or.inr (Or.inr (Or.inl (w 70 n h.1 h.2))))))))))
    · exact Or.inr (Or.inr (Or.inr (Or.inr (Or.inr (Or.inr (Or.inr (Or.inr (Or.inr (Or.inr (Or.inl (w 80 _ h.1 h.2)))))))))))
    · exact Or.inr (Or.inr (Or.inr (Or.inr (Or.inr (Or.inr (Or.inr (Or.inr (Or.inr (Or.inr (Or.inr (Or.inl (w 100 _ h.1 h.2))))))))))))
    · exact Or.inr (Or.inr (Or.inr (Or.inr (Or.inr (Or.inr (Or.inr (Or.inr (Or.inr (Or.inr (Or.inr (Or.inr (Or.inl (w 120 _ h.1 h.2)))))))))))))
    · exact Or.inr (Or.inr (Or.inr (Or.inr (Or.inr (Or.inr (Or.inr (Or.inr (Or.inr (Or.inr (Or.inr (Or.inr (Or.inr (w 140 _ h.1 h.2)))))))))))))
  have np : ∀ {i : Nat}, i < 60 → ¬ pLs n 3 i := fun h => by unfold pLs; omega
  rcases hc with rfl | rfl | rfl | rfl | ⟨d, hl, rfl⟩ | ⟨d, hl, rfl⟩ | ⟨d, hl, rfl⟩ | ⟨d, hl, rfl⟩ | ⟨d, hl, rfl⟩ | ⟨d, hl, rfl⟩ | ⟨d, hl, rfl⟩ | ⟨d, hl, rfl⟩ | ⟨d, hl, rfl⟩ | ⟨d, hl, rfl⟩
  · show eO 1 (sF0 _ r) = eO 1 (sF0 ad r)
    dsimp only [sF0]
    rw [hs (i := 1) (by omega) (np (by omega)), hs (i := 2) (by omega) (np (by omega)), hs (i := 4) (by omega) (np (by omega)), hs (i := 5) (by omega) (np (by omega))]
  · show eQ (G.2.1 6) 4 (sSa _ 10 4) = eQ (G.2.1 6) 4 (sSa ad 10 4)
    rw [sSa_eq (fun j hj => hs (by omega) (np (by omega)))]
  · rfl
  · rfl
  · rw [sC_D (by omega), sC_D (by omega)]
    dsimp only [sFD]
    rw [hs (i := 20 + d) (by omega) (np (by omega)), hs (i := 40 + (4 * d + 3)) (by omega) (np (by omega)), hs (i := 30 + d) (by omega) (np (by omega))]
  · rw [sC_A (by omega), sC_A (by omega), sSa_eq (fun j hj => hs (by omega) (np (by omega)))]
  · rw [sC_L (by omega), sC_L (by omega)]
  · rw [sC_H (by omega), sC_H (by omega)]
  · rw [sC_P (by omega), sC_P (by omega)]
    dsimp only [sFP]
    rw [hs (i := 70 + d) (by omega) (by unfold pLs; omega)]
  · rw [sC_U (by omega), sC_U (by omega), sSa_eq (fun j hj => hs (by omega) (by unfold pLs; omega))]
  · rw [sC_S (by omega), sC_S (by omega)]
    dsimp only [sFS]
    rw [hs (i := 100 + d) (by omega) (by unfold pLs; omega), hs (i := 120 + d) (by omega) (by unfold pLs; omega), hs (i := 140 + d) (by omega) (by unfold pLs; omega)]
  · rw [sC_V (by omega), sC_V (by omega)]
  · rw [sC_O (by omega), sC_O (by omega)]
  · rw [sC_F, sC_F]
/-- what the new pack's parts hold -/
theorem sC_JP (hn : n < 6) {i : Nat} (h : pLs n 3 i) : sC G (adJ n e3 ad ap) (n + 1) r f dv i = sC G ap 0 r f dv i := by
  have hp : ∀ {i : Nat}, pLs n 3 i → adJ n e3 ad ap i = ap i := fun a => adJ_p a
  have hc : i = 60 + n ∨ i = 70 + n ∨ (∃ d, d < 3 ∧ i = 80 + (3 * n + d)) ∨ (∃ d, d < 3 ∧ i = 100 + (3 * n + d)) ∨ (∃ d, d < 3 ∧ i = 120 + (3 * n + d)) ∨ (∃ d, d < 3 ∧ i = 140 + (3 * n + d)) := by
    have w : ∀ b, b + 3 * n ≤ i → i < b + 3 * n + 3 → ∃ d, d < 3 ∧ i = b + (3 * n + d) := fun b x y => ⟨i - (b + 3 * n), by omega, by omega⟩
    unfold pLs at h
    rcases h with h | h | h | h | h | h
    · exact Or.inl h
    · exact Or.inr (Or.inl h)
    · exact Or.inr (Or.inr (Or.inl (w 80 h.1 h.2)))
    · exact Or.inr (Or.inr (Or.inr (Or.inl (w 100 h.1 h.2))))
    · exact Or.inr (Or.inr (Or.inr (Or.inr (Or.inl (w 120 h.1 h.2)))))
    · exact Or.inr (Or.inr (Or.inr (Or.inr (Or.inr (w 140 h.1 h.2)))))
  rcases hc with rfl | rfl | ⟨d, hl, rfl⟩ | ⟨d, hl, rfl⟩ | ⟨d, hl, rfl⟩ | ⟨d, hl, rfl⟩
  · rw [sC_P (by omega), sC_P (by omega)]
    dsimp only [sFP]
    rw [hp (i := 70 + n) (by unfold pLs; omega)]
  · rw [sC_U (by omega), sC_U (by omega), sSa_eq (fun j hj => hp (by unfold pLs; omega))]
  · rw [sC_S (by omega), sC_S (by omega)]
    dsimp only [sFS]
    rw [hp (i := 100 + (3 * n + d)) (by unfold pLs; omega), hp (i := 120 + (3 * n + d)) (by unfold pLs; omega), hp (i := 140 + (3 * n + d)) (by unfold pLs; omega)]
  · rw [sC_V (by omega), sC_V (by omega)]
  · rw [sC_O (by omega), sC_O (by omega)]
  · rw [sC_F, sC_F]
theorem sAt.join (hn : n < 6) (hS : ∀ i, sL n i → i ≠ 2 → i ≠ 3 → M (ad i) = some (sC G ad n r f dv i)) (h2 : M (ad 2) = some (eO 9 [.int (nI (n + 1)), .ref e3, .int (nI (n + 1))])) (h3 : M e3 = some (eQ (G.2.1 4) 10 (va_up (sSa ad 60 n) n (some (ap (60 + n)))))) (hP : ∀ i, pLs n 3 i → M (ap i) = some (sC G ap 0 r f dv i)) : sAt G (adJ n e3 ad ap) (n + 1) r f dv M := by
  intro i hi
  rcases sL_J hn hi with rfl | ⟨i3, a⟩ | ⟨i3, a⟩
  · rw [adJ_3, h3]
    show _ = some (eQ (G.2.1 4) 10 (sSa (adJ n e3 ad ap) 60 (n + 1)))
    have e : sSa ad 60 n = sSa (adJ n e3 ad ap) 60 n := sSa_eq fun j hj => (adJ_s (n := n) (by omega) (by unfold pLs; omega)).symm
    rw [← sSa_up, adJ_p (i := 60 + n) (by unfold pLs; omega), e]
  · rw [adJ_s i3 (sL_p hn a)]
    by_cases i2 : i = 2
    · subst i2
      rw [h2]
      show _ = some (eO 9 (sF2 G (adJ n e3 ad ap) (n + 1)))
      dsimp only [sF2]
      rw [if_neg (by omega), adJ_3]
    · rw [sC_J hn a i2 i3]
      exact hS i a i2 i3
  · rw [adJ_p a, sC_JP hn a]
    exact hP i a
end PJ
