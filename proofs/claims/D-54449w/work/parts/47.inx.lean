/-! WHAT ALWAYS HOLDS, behind mounting, making a pack, an order of a text -/
theorem mDw_m1 {r : Nat → Int32} {x : Int32} (h : mDw r x = -1) : ∀ e, e < 4 → r (60 + e) ≠ x := by
  intro e he q
  unfold mDw at h
  split at h
  · exact m1_ne_nI (by decide) h
  · split at h
    · exact m1_ne_nI (by decide) h
    · split at h
      · exact m1_ne_nI (by decide) h
      · split at h
        · exact m1_ne_nI (by decide) h
        · rename_i a0 a1 a2 a3
          have : e = 0 ∨ e = 1 ∨ e = 2 ∨ e = 3 := by omega
          rcases this with rfl | rfl | rfl | rfl
          · exact a0 q
          · exact a1 q
          · exact a2 q
          · exact a3 q
theorem mInv_make {r : Nat → Int32} {f : Nat → UInt32} {np : Nat} {x : Int32} (h : mInv r f) (hnp : r 89 = nI np) (h6 : np < 6) (hx : bnd 60 x) : mInv (va_up (va_up r (90 + np) x) 89 (r 89 + nI 1)) f := by
  have e89 : r 89 + nI 1 = nI (np + 1) := by rw [hnp]; exact nK_add _ _
  rw [e89]
  obtain ⟨⟨np1, hnp1, h61, hpk, hun⟩, ⟨t, ht, ht8⟩, h3, h4, h5, h6', h7, h8, h9, h10, h11, h12, h13⟩ := h
  have e : np1 = np := nK_inj (by omega) (by omega) (hnp1.symm.trans hnp)
  subst e
  have at_ : ∀ j, j ≠ 89 → j ≠ 90 + np1 → va_up (va_up r (90 + np1) x) 89 (nI (np1 + 1)) j = r j := fun j a b => (va_up_ne _ _ a).trans (va_up_ne _ _ b)
  refine ⟨⟨np1 + 1, va_up_self _ _ _, by omega, fun d hd => ?_, fun k k1 k2 s0 hs => ⟨?_, fun c0 hc => ⟨?_, ?_, ?_⟩⟩⟩, ⟨t, ?_, ht8⟩, fun j hj => ?_, fun j hj => ?_, fun e he => ?_, fun e he => ?_, fun e he => ?_, fun j hj => ?_, fun k hk => ?_, fun j hj => ?_, fun j hj => ?_, h12, fun e1 e2 he1 he2 => ?_⟩
  · rw [at_ _ (by omega) (by omega)]
    rcases hpk d hd with q | ⟨p0, q1, q2⟩
    · exact Or.inl q
    · exact Or.inr ⟨p0, by omega, q2⟩
  · rw [at_ _ (by omega) (by omega)]; exact (hun k (by omega) k2 s0 hs).1
  · rw [at_ _ (by omega) (by omega)]; exact ((hun k (by omega) k2 s0 hs).2 c0 hc).1
  · rw [at_ _ (by omega) (by omega)]; exact ((hun k (by omega) k2 s0 hs).2 c0 hc).2.1
  · exact ((hun k (by omega) k2 s0 hs).2 c0 hc).2.2
  · rw [at_ _ (by omega) (by omega)]; exact ht
  · rw [at_ _ (by omega) (by omega)]; exact h3 j hj
  · rw [at_ _ (by omega) (by omega)]; exact h4 j hj
  · rw [at_ _ (by omega) (by omega)]; exact h5 e he
  · rw [at_ _ (by omega) (by omega)]; exact h6' e he
  · rw [at_ _ (by omega) (by omega)]; exact h7 e he
  · rw [at_ _ (by omega) (by omega)]; exact h8 j hj
  · by_cases q : k = np1
    · rw [q, va_up_ne _ _ (by omega), va_up_self]; exact hx
    · rw [at_ _ (by omega) (by omega)]; exact h9 k hk
  · rw [at_ _ (by omega) (by omega)]; exact h10 j hj
  · rw [at_ _ (by omega) (by omega)]; exact h11 j hj
  · rw [at_ _ (by omega) (by omega), at_ _ (by omega) (by omega)]; exact h13 e1 e2 he1 he2
/-- a letter's order -/
theorem tP1_in {L : Int32} (h : tP1 L = true) : L = nI 109 ∨ L = nI 117 ∨ L = nI 115 ∨ L = nI 119 ∨ L = nI 114 ∨ L = nI 118 ∨ L = nI 99 ∨ L = nI 102 := by
  unfold tP1 at h
  exact of_decide_eq_true h
theorem tSg_in {x : Int32} {k : Nat} (hk : k < 80) (h : nI 48 ≤ x ∧ x ≤ nI (48 + k)) : inN (x - nI 48) (k + 1) := by
  obtain ⟨j, hj, rfl⟩ := nK_of (Int32.le_trans (show nI 0 ≤ nI 48 by decide) h.1)
  have h1 := (nK_le (by decide) hj).mp h.1
  have h2 := (nK_le hj (by omega)).mp h.2
  refine ⟨j - 48, by omega, ?_⟩
  rw [show nI j = nI (j - 48 + 48) by rw [show j - 48 + 48 = j by omega], ← nK_add]
  grind
theorem tWl_of {b : Nat → Int32} {lb sp : Nat} {L : Int32} (h : (tPart b lb L sp).2.1 = true) : tWl L (tPart b lb L sp).2.2.1 (tPart b lb L sp).2.2.2.1 := by
  have fst : ∀ w2 sp2 a, (tPt b lb L sp2 w2 a).2.1 = true → w2 = true ∧ (L = nI 118 → (tPt b lb L sp2 w2 a).2.2.2.1 = nI 0 ∨ (tPt b lb L sp2 w2 a).2.2.2.1 = nI 1) ∧ (L = nI 102 → inN (tPt b lb L sp2 w2 a).2.2.2.1 4) ∧ (tPt b lb L sp2 w2 a).2.2.1 = a := by
    intro w2 sp2 a hw
    unfold tPt at hw ⊢
    dsimp only at hw ⊢
    split at hw
    · rename_i e
      rw [if_pos e]
      exact ⟨(tNd_in (tNd_in hw).1).1, fun q => absurd (e.symm.trans q) (by decide), fun q => absurd (e.symm.trans q) (by decide), rfl⟩
    · rename_i e1
      rw [if_neg e1]
      split at hw
      · rename_i e
        rw [if_pos e]
        exact ⟨(tNd_in (tNd_in hw).1).1, fun q => absurd (e.symm.trans q) (by decide), fun q => absurd (e.symm.trans q) (by decide), rfl⟩
      · rename_i e2
        rw [if_neg e2]
        split at hw
        · rename_i e3
          rw [if_pos e3]
          split at hw
          · rename_i e4
            rw [if_pos e4]
            exact ⟨(tNd_in (tNd_in (tNd_in (tNd_in hw).1).1).1).1, fun q => absurd (e4.symm.trans q) (by decide), fun q => absurd (e4.symm.trans q) (by decide), rfl⟩
          · rename_i e4
            rw [if_neg e4]
            refine ⟨(tNd_in (tNd_in hw).1).1, fun q => ?_, fun q => ?_, rfl⟩
            · subst q; exact absurd e3 (by decide)
            · subst q
              have := (tNd_in hw).2
              rw [if_pos rfl] at this
              exact tSg_in (k := 3) (by decide) this
        · rename_i e3
          rw [if_neg e3]
          have n102 : ¬ L = nI 102 := fun q => e3 (Or.inr (Or.inr q))
          split at hw
          · rename_i e4
            rw [if_pos e4]
            refine ⟨(tNd_in hw).1, fun _ => ?_, fun q => absurd q n102, rfl⟩
            dsimp only
            split
            · exact Or.inr rfl
            · exact Or.inl rfl
          · rename_i e4
            rw [if_neg e4]
            exact ⟨hw, fun q => absurd q e4, fun q => absurd q n102, rfl⟩
  rw [tPart_eq] at h ⊢
  obtain ⟨a1, a2, a3, a4⟩ := fst _ _ _ h
  obtain ⟨c1, c2⟩ := tNd_in a1
  unfold tWl
  rcases tP1_in c1 with q | q | q | q | q | q | q | q
  · exact Or.inl q
  · exact Or.inr (Or.inl q)
  · exact Or.inr (Or.inr (Or.inl q))
  · exact Or.inr (Or.inr (Or.inr (Or.inl q)))
  · exact Or.inr (Or.inr (Or.inr (Or.inr (Or.inl q))))
  · exact Or.inr (Or.inr (Or.inr (Or.inr (Or.inr (Or.inl ⟨q, a2 q⟩)))))
  · exact Or.inr (Or.inr (Or.inr (Or.inr (Or.inr (Or.inr (Or.inl q))))))
  · refine Or.inr (Or.inr (Or.inr (Or.inr (Or.inr (Or.inr (Or.inr ⟨q, ?_, a3 q⟩))))))
    rw [a4]
    have h5 : ¬ L = nI 99 := by rw [q]; decide
    rw [if_neg h5] at c2
    exact tSg_in (k := 3) (by decide) c2
theorem mInv_do {r : Nat → Int32} {f : Nat → UInt32} {L x z u : Int32} (h : mInv r f) (hw : tWl L x z) : mInv (tDo r f L x z u).2.1 (tDo r f L x z u).2.2 := by
  obtain ⟨np, hnp, h6, hpk, hun⟩ := h.1
  have enp : nD (r 89) = np := by rw [hnp]; exact nD_nI (by omega)
  rcases hw with rfl | rfl | rfl | rfl | rfl | ⟨rfl, hz⟩ | rfl | ⟨rfl, hx, hz⟩
  · by_cases c : kMount r x z = 0
    · rw [tDo_m1 c]
      obtain ⟨⟨⟨d, hd, rfl⟩, ⟨p0, hp, rfl⟩⟩, -, hz⟩ := cd2_z c
      rw [enp] at hp
      dsimp only
      rw [nD_nI (show d < 2 ^ 31 by omega)]
      exact mInv_pk h hd (Or.inr ⟨p0, np, hnp, h6, hp, rfl, mDw_m1 hz⟩)
    · rw [tDo_m0 c]; exact h
  · by_cases c : kPack r x = 0
    · rw [tDo_u1 c]
      obtain ⟨⟨d, hd, rfl⟩, -⟩ := cd2_z c
      dsimp only
      rw [nD_nI (show d < 2 ^ 31 by omega)]
      exact mInv_unm h hnp h6 hd
    · rw [tDo_u0 c]; exact h
  · by_cases c : kSeek r x z = 0
    · rw [tDo_s1 c]
      obtain ⟨⟨⟨d, hd, rfl⟩, hc⟩, -⟩ := cd2_z c
      dsimp only
      rw [nD_nI (show d < 2 ^ 31 by omega)]
      exact mInv_up h hnp h6 (ok_cyl h6 hc ⟨by omega, by omega⟩)
    · rw [tDo_s0 c]; exact h
  · by_cases c : kWrite r x z u = 0
    · rw [tDo_w1 c]
      obtain ⟨⟨⟨d, hd, rfl⟩, ⟨n, hn, rfl⟩⟩, -, hpn⟩ := cd3_z c
      have ed := nD_nI (show d < 2 ^ 31 by omega)
      rw [ed] at hpn
      obtain ⟨p0, hp0, hp⟩ := (hpk d hd).resolve_left hpn
      obtain ⟨c0, hc4, hc⟩ := h.2.2.2.2.2.1 d hd
      dsimp only
      rw [ed, nD_nI (show n < 2 ^ 31 by omega), hp, nD_nI (show p0 < 2 ^ 31 by omega), hc, nD_nI (show c0 < 2 ^ 31 by omega)]
      exact mInv_rub (mInv_wr h hnp h6 hd hn hp0 hc4) ((nWrR_at (by decide)).trans hnp) h6 hd hn hp0 hc4
    · rw [tDo_w0 c]; exact h
  · by_cases c : kRead r x z = 0
    · rw [tDo_r1 c]
      obtain ⟨⟨⟨d, hd, rfl⟩, ⟨n, hn, rfl⟩⟩, hpn⟩ := cd2_z c
      have ed := nD_nI (show d < 2 ^ 31 by omega)
      rw [ed] at hpn
      obtain ⟨p0, hp0, hp⟩ := (hpk d hd).resolve_left hpn
      obtain ⟨c0, hc4, hc⟩ := h.2.2.2.2.2.1 d hd
      dsimp only
      rw [ed, nD_nI (show n < 2 ^ 31 by omega), hp, nD_nI (show p0 < 2 ^ 31 by omega), hc, nD_nI (show c0 < 2 ^ 31 by omega)]
      exact mInv_rub (mInv_rd h hnp h6 hd hp0) (((by
        unfold nRdR
        split
        · rw [va_up_ne _ _ (by omega)]
          exact nRdA_at (by decide)
        · exact nRdA_at (by decide)) : _ = r 89).trans hnp) h6 hd hn hp0 hc4
    · rw [tDo_r0 c]; exact h
  · by_cases c : kServo r x (bI (z = nI 1)) = 0
    · rw [tDo_v1 c]
      obtain ⟨⟨d, hd, rfl⟩, -⟩ := cd2_z c
      dsimp only
      rw [nD_nI (show d < 2 ^ 31 by omega)]
      exact mInv_up h hnp h6 (ok_srv h6 hz ⟨by omega, by omega⟩)
    · rw [tDo_v0 c]; exact h
  · by_cases c : kPolish r x = 0
    · rw [tDo_c1 c]
      obtain ⟨⟨d, hd, rfl⟩, -⟩ := cd2_z c
      rw [enp] at hd
      dsimp only
      rw [nD_nI (show d < 2 ^ 31 by omega)]
      exact mInv_pol h hnp h6 hd
    · rw [tDo_c0 c]; exact h
  · rw [tDo_f]
    obtain ⟨d, hd, rfl⟩ := hx
    obtain ⟨n, hn, rfl⟩ := hz
    dsimp only
    rw [nD_nI (show d < 2 ^ 31 by omega), nD_nI (show n < 2 ^ 31 by omega)]
    exact mInv_mend h hnp h6 hd hn
/-- the orders of a text, from a spot on, while they are possible -/
noncomputable def tRun (b : Nat → Int32) (lb : Nat) : Nat → Nat → (Nat → Int32) → (Nat → UInt32) → Nat × (Nat → Int32) × (Nat → UInt32)
  | 0, _, r, f => (0, r, f)
  | n + 1, sp, r, f =>
    if sp < lb then
      if (tDo r f (tSg b lb sp) (tPart b lb (tSg b lb sp) sp).2.2.1 (tPart b lb (tSg b lb sp) sp).2.2.2.1 (tPart b lb (tSg b lb sp) sp).2.2.2.2).1 = true then
        ((tRun b lb n ((tPart b lb (tSg b lb sp) sp).1 + 1) (tDo r f (tSg b lb sp) (tPart b lb (tSg b lb sp) sp).2.2.1 (tPart b lb (tSg b lb sp) sp).2.2.2.1 (tPart b lb (tSg b lb sp) sp).2.2.2.2).2.1 (tDo r f (tSg b lb sp) (tPart b lb (tSg b lb sp) sp).2.2.1 (tPart b lb (tSg b lb sp) sp).2.2.2.1 (tPart b lb (tSg b lb sp) sp).2.2.2.2).2.2).1 + 1,
          (tRun b lb n ((tPart b lb (tSg b lb sp) sp).1 + 1) (tDo r f (tSg b lb sp) (tPart b lb (tSg b lb sp) sp).2.2.1 (tPart b lb (tSg b lb sp) sp).2.2.2.1 (tPart b lb (tSg b lb sp) sp).2.2.2.2).2.1 (tDo r f (tSg b lb sp) (tPart b lb (tSg b lb sp) sp).2.2.1 (tPart b lb (tSg b lb sp) sp).2.2.2.1 (tPart b lb (tSg b lb sp) sp).2.2.2.2).2.2).2)
      else (0, (tDo r f (tSg b lb sp) (tPart b lb (tSg b lb sp) sp).2.2.1 (tPart b lb (tSg b lb sp) sp).2.2.2.1 (tPart b lb (tSg b lb sp) sp).2.2.2.2).2)
    else (0, r, f)
