/-! A PACK PUT INTO A STATE -/
section PQ
variable {G : mG} {n e3 v : Nat} {ad ap : Nat → Nat} {r r' : Nat → Int32} {f f' : Nat → UInt32} {dv dv' : Nat → Int32} {M0 Mp M1 : mM}
theorem sC_f {i : Nat} (hi : sL n i) (hn : n ≤ 6) (hf : ∀ j, j < 120 * n → f' j = f j) : sC G ad n r f' dv i = sC G ad n r f dv i := by
  by_cases h : 140 ≤ i
  · obtain ⟨k, rfl⟩ : ∃ k, i = 140 + k := ⟨i - 140, by omega⟩
    have hk : k < 3 * n := by unfold sL at hi; omega
    rw [sC_F, sC_F]
    have e : sSf f' (40 * k) 40 = sSf f (40 * k) 40 := by
      funext j
      unfold sSf
      by_cases q : j < 40
      · rw [if_pos q, if_pos q, hf _ (by omega)]
      · rw [if_neg q, if_neg q]
    rw [e]
  · unfold sC
    rw [if_pos (show i < 140 by omega), if_pos (show i < 140 by omega)]
theorem sAt.added (hn : n < 6) (hd : sAd n ad) (hS : sAt G ad n r f dv M0) (hP : pkMade G v n r' f' dv' M0 Mp) (hr : ∀ i, sL n i → ∀ j, sOw j = i → r' j = r j) (hf : ∀ j, j < 120 * n → f' j = f j) (hv : ∀ k, k ≠ n → dv' k = dv k) (he : n ≠ 0 → e3 = ad 3) (he0 : n = 0 → Mp e3 = none)
    (hM : M1 = mup (mup Mp e3 (eQ (G.2.1 4) 10 (va_up (sSa ad 60 n) n (some v)))) (ad 2) (eO 9 [.int (nI (n + 1)), .ref e3, .int (nI (n + 1))])) :
    ∃ ad' : Nat → Nat, sAd (n + 1) ad' ∧ ad' 0 = ad 0 ∧ sAt G ad' (n + 1) r' f' dv' M1 ∧ (∀ a x, M0 a = some x → (∀ i, sL n i → ad i ≠ a) → M1 a = some x) ∧ (∀ i, sL (n + 1) i → (∃ j, sL n j ∧ ad' i = ad j) ∨ M0 (ad' i) = none) := by
  obtain ⟨ap, p1, p2, p3, p4, p5⟩ := hP
  have l2 : sL n 2 := by unfold sL; omega
  have hne : ∀ i j, sL n i → pLs n 3 j → ad i ≠ ap j := fun i j a b => kp_ne (p3 j b) (hS i a)
  have h3 : ∀ i, sL n i → i ≠ 3 → ad i ≠ e3 := fun i a b => by
    by_cases z : n = 0
    · exact kp_ne (he0 z) (p4 _ _ (hS i a))
    · rw [he z]
      exact fun e => b (hd _ _ a (by unfold sL; omega) e)
  have h4 : ∀ j, pLs n 3 j → ap j ≠ e3 := fun j b => by
    by_cases z : n = 0
    · exact kp_ne (he0 z) (p5 j b)
    · rw [he z]
      exact (hne 3 j (by unfold sL; omega) b).symm
  have e2 : e3 ≠ ad 2 := (h3 2 l2 (by omega)).symm
  have d3 : ∀ a x, M0 a = some x → (∀ i, sL n i → ad i ≠ a) → a ≠ e3 := fun a x h o => by
    by_cases z : n = 0
    · exact kp_ne (he0 z) (p4 _ _ h)
    · rw [he z]
      exact (o 3 (by unfold sL; omega)).symm
  refine ⟨adJ n e3 ad ap, adJ_inj hn hd p2 hne h3 h4, adJ_s (by omega) (by unfold pLs; omega), sAt.join hn (fun i hi i2 i3 => ?_) ?_ ?_ (fun i hi => ?_), fun a x h o => ?_, fun i hi => ?_⟩
  · rw [hM, mup_ne (fun e => i2 (hd _ _ hi l2 e)), mup_ne (h3 i hi i3), p4 _ _ (hS i hi)]
    rw [sC_own (r' := r') (by omega) hi (hr i hi), ← sC_f (f' := f') hi (by omega) hf, sC_dv (dv' := dv') (by omega) hi (fun k e => ?_)]
    subst e
    exact hv k (by unfold sL at hi; omega)
  · rw [hM, mup_self]
  · rw [hM, mup_ne e2, mup_self, p1]
  · rw [hM, mup_ne (hne 2 i l2 hi).symm, mup_ne (h4 i hi)]
    exact p5 i hi
  · rw [hM, mup_ne (o 2 l2).symm, mup_ne (d3 a x h o)]
    exact p4 a x h
  · rcases sL_J hn hi with rfl | ⟨i3, a⟩ | ⟨i3, a⟩
    · rw [adJ_3]
      by_cases z : n = 0
      · exact Or.inr (New.none p4 (he0 z))
      · exact Or.inl ⟨3, by unfold sL; omega, he z⟩
    · exact Or.inl ⟨i, a, adJ_s i3 (sL_p hn a)⟩
    · rw [adJ_p a]
      exact Or.inr (p3 i a)
end PQ
