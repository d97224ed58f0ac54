/-! CHANGES OF A STATE'S PARTS, one by one -/
section SU1
variable {G : mG} {ad : Nat → Nat} {n : Nat} {r : Nat → Int32} {f : Nat → UInt32} {dv : Nat → Int32} {M0 : mM} {x : Int32}
theorem su_t (hd : sAd n ad) (hn : n ≤ 6) {j0 : Nat} (h0 : j0 = 88) : mup (sM G ad n r f dv M0) (ad (0)) (eO 1 ((sF0 ad r).set 4 (.int x))) = sM G ad n (va_up r j0 x) f dv M0 := by
  subst h0
  have ho : sOw (88) = 0 := by decide
  refine sM_upr hd hn (by unfold sL; omega) ho ?_
  show eO 1 _ = eO 1 (sF0 ad (va_up r 88 x))
  unfold sF0
  rw [va_up_self, va_up_ne _ _ (by omega), va_up_ne _ _ (by omega)]
  rfl
theorem su_r (hd : sAd n ad) (hn : n ≤ 6) {j0 : Nat} (h0 : j0 = 114) : mup (sM G ad n r f dv M0) (ad (0)) (eO 1 ((sF0 ad r).set 5 (.int x))) = sM G ad n (va_up r j0 x) f dv M0 := by
  subst h0
  have ho : sOw (114) = 0 := by decide
  refine sM_upr hd hn (by unfold sL; omega) ho ?_
  show eO 1 _ = eO 1 (sF0 ad (va_up r 114 x))
  unfold sF0
  rw [va_up_self, va_up_ne _ _ (by omega), va_up_ne _ _ (by omega)]
  rfl
theorem su_f (hd : sAd n ad) (hn : n ≤ 6) {j0 : Nat} (h0 : j0 = 115) : mup (sM G ad n r f dv M0) (ad (0)) (eO 1 ((sF0 ad r).set 6 (.int x))) = sM G ad n (va_up r j0 x) f dv M0 := by
  subst h0
  have ho : sOw (115) = 0 := by decide
  refine sM_upr hd hn (by unfold sL; omega) ho ?_
  show eO 1 _ = eO 1 (sF0 ad (va_up r 115 x))
  unfold sF0
  rw [va_up_self, va_up_ne _ _ (by omega), va_up_ne _ _ (by omega)]
  rfl
theorem su_D3 (hd : sAd n ad) (hn : n ≤ 6) {d : Nat} (h1 : d < 4) {j0 : Nat} (h0 : j0 = 48 + d) : mup (sM G ad n r f dv M0) (ad (10 + d)) (eO 2 ((sFD ad r d).set 3 (.int x))) = sM G ad n (va_up r j0 x) f dv M0 := by
  subst h0
  have ho : sOw (48 + d) = 10 + d := by
    unfold sOw
    repeat rw [if_neg (by omega)]
    rw [if_pos (by omega)] <;> omega
  refine sM_upr hd hn (by unfold sL; omega) ho ?_
  rw [sC_D (by omega)]
  unfold sFD
  rw [va_up_self, va_up_ne _ _ (by omega), va_up_ne _ _ (by omega), va_up_ne _ _ (by omega)]
  rfl
theorem su_D4 (hd : sAd n ad) (hn : n ≤ 6) {d : Nat} (h1 : d < 4) {j0 : Nat} (h0 : j0 = 52 + d) : mup (sM G ad n r f dv M0) (ad (10 + d)) (eO 2 ((sFD ad r d).set 4 (.int x))) = sM G ad n (va_up r j0 x) f dv M0 := by
  subst h0
  have ho : sOw (52 + d) = 10 + d := by
    unfold sOw
    repeat rw [if_neg (by omega)]
    rw [if_pos (by omega)] <;> omega
  refine sM_upr hd hn (by unfold sL; omega) ho ?_
  rw [sC_D (by omega)]
  unfold sFD
  rw [va_up_self, va_up_ne _ _ (by omega), va_up_ne _ _ (by omega), va_up_ne _ _ (by omega)]
  rfl
theorem su_D5 (hd : sAd n ad) (hn : n ≤ 6) {d : Nat} (h1 : d < 4) {j0 : Nat} (h0 : j0 = 56 + d) : mup (sM G ad n r f dv M0) (ad (10 + d)) (eO 2 ((sFD ad r d).set 5 (.int x))) = sM G ad n (va_up r j0 x) f dv M0 := by
  subst h0
  have ho : sOw (56 + d) = 10 + d := by
    unfold sOw
    repeat rw [if_neg (by omega)]
    rw [if_pos (by omega)] <;> omega
  refine sM_upr hd hn (by unfold sL; omega) ho ?_
  rw [sC_D (by omega)]
  unfold sFD
  rw [va_up_self, va_up_ne _ _ (by omega), va_up_ne _ _ (by omega), va_up_ne _ _ (by omega)]
  rfl
theorem su_D6 (hd : sAd n ad) (hn : n ≤ 6) {d : Nat} (h1 : d < 4) {j0 : Nat} (h0 : j0 = 60 + d) : mup (sM G ad n r f dv M0) (ad (10 + d)) (eO 2 ((sFD ad r d).set 6 (.int x))) = sM G ad n (va_up r j0 x) f dv M0 := by
  subst h0
  have ho : sOw (60 + d) = 10 + d := by
    unfold sOw
    repeat rw [if_neg (by omega)]
    rw [if_pos (by omega)] <;> omega
  refine sM_upr hd hn (by unfold sL; omega) ho ?_
  rw [sC_D (by omega)]
  unfold sFD
  rw [va_up_self, va_up_ne _ _ (by omega), va_up_ne _ _ (by omega), va_up_ne _ _ (by omega)]
  rfl
theorem su_HD0 (hd : sAd n ad) (hn : n ≤ 6) {d h : Nat} (h1 : d < 4) (h2 : h < 3) {j0 : Nat} (h0 : j0 = 0 + (4 * d + h)) : mup (sM G ad n r f dv M0) (ad (40 + (4 * d + h))) (eO 4 ((sFH r (4 * d + h)).set 0 (.int x))) = sM G ad n (va_up r j0 x) f dv M0 := by
  subst h0
  have ho : sOw (0 + (4 * d + h)) = 40 + (4 * d + h) := by
    unfold sOw
    repeat rw [if_neg (by omega)]
    rw [if_pos (by omega)] <;> omega
  refine sM_upr hd hn (by unfold sL; omega) ho ?_
  rw [sC_H (by omega), if_neg (by omega)]
  unfold sFH
  rw [va_up_self, va_up_ne _ _ (by omega), va_up_ne _ _ (by omega)]
  rfl
theorem su_HS0 (hd : sAd n ad) (hn : n ≤ 6) {d : Nat} (h1 : d < 4) {j0 : Nat} (h0 : j0 = 0 + (4 * d + 3)) : mup (sM G ad n r f dv M0) (ad (40 + (4 * d + 3))) (eO 3 ((sFH r (4 * d + 3)).set 0 (.int x))) = sM G ad n (va_up r j0 x) f dv M0 := by
  subst h0
  have ho : sOw (0 + (4 * d + 3)) = 40 + (4 * d + 3) := by
    unfold sOw
    repeat rw [if_neg (by omega)]
    rw [if_pos (by omega)] <;> omega
  refine sM_upr hd hn (by unfold sL; omega) ho ?_
  rw [sC_H (by omega), if_pos (by omega)]
  unfold sFH
  rw [va_up_self, va_up_ne _ _ (by omega), va_up_ne _ _ (by omega)]
  rfl
theorem su_HD1 (hd : sAd n ad) (hn : n ≤ 6) {d h : Nat} (h1 : d < 4) (h2 : h < 3) {j0 : Nat} (h0 : j0 = 16 + (4 * d + h)) : mup (sM G ad n r f dv M0) (ad (40 + (4 * d + h))) (eO 4 ((sFH r (4 * d + h)).set 1 (.int x))) = sM G ad n (va_up r j0 x) f dv M0 := by
  subst h0
  have ho : sOw (16 + (4 * d + h)) = 40 + (4 * d + h) := by
    unfold sOw
    repeat rw [if_neg (by omega)]
    rw [if_pos (by omega)] <;> omega
  refine sM_upr hd hn (by unfold sL; omega) ho ?_
  rw [sC_H (by omega), if_neg (by omega)]
  unfold sFH
  rw [va_up_self, va_up_ne _ _ (by omega), va_up_ne _ _ (by omega)]
  rfl
theorem su_HS1 (hd : sAd n ad) (hn : n ≤ 6) {d : Nat} (h1 : d < 4) {j0 : Nat} (h0 : j0 = 16 + (4 * d + 3)) : mup (sM G ad n r f dv M0) (ad (40 + (4 * d + 3))) (eO 3 ((sFH r (4 * d + 3)).set 1 (.int x))) = sM G ad n (va_up r j0 x) f dv M0 := by
  subst h0
  have ho : sOw (16 + (4 * d + 3)) = 40 + (4 * d + 3) := by
    unfold sOw
    repeat rw [if_neg (by omega)]
    rw [if_pos (by omega)] <;> omega
  refine sM_upr hd hn (by unfold sL; omega) ho ?_
  rw [sC_H (by omega), if_pos (by omega)]
  unfold sFH
  rw [va_up_self, va_up_ne _ _ (by omega), va_up_ne _ _ (by omega)]
  rfl
theorem su_HD2 (hd : sAd n ad) (hn : n ≤ 6) {d h : Nat} (h1 : d < 4) (h2 : h < 3) {j0 : Nat} (h0 : j0 = 32 + (4 * d + h)) : mup (sM G ad n r f dv M0) (ad (40 + (4 * d + h))) (eO 4 ((sFH r (4 * d + h)).set 2 (.int x))) = sM G ad n (va_up r j0 x) f dv M0 := by
  subst h0
  have ho : sOw (32 + (4 * d + h)) = 40 + (4 * d + h) := by
    unfold sOw
    repeat rw [if_neg (by omega)]
    rw [if_pos (by omega)] <;> omega
  refine sM_upr hd hn (by unfold sL; omega) ho ?_
  rw [sC_H (by omega), if_neg (by omega)]
  unfold sFH
  rw [va_up_self, va_up_ne _ _ (by omega), va_up_ne _ _ (by omega)]
  rfl
theorem su_HS2 (hd : sAd n ad) (hn : n ≤ 6) {d : Nat} (h1 : d < 4) {j0 : Nat} (h0 : j0 = 32 + (4 * d + 3)) : mup (sM G ad n r f dv M0) (ad (40 + (4 * d + 3))) (eO 3 ((sFH r (4 * d + 3)).set 2 (.int x))) = sM G ad n (va_up r j0 x) f dv M0 := by
  subst h0
  have ho : sOw (32 + (4 * d + 3)) = 40 + (4 * d + 3) := by
    unfold sOw
    repeat rw [if_neg (by omega)]
    rw [if_pos (by omega)] <;> omega
  refine sM_upr hd hn (by unfold sL; omega) ho ?_
  rw [sC_H (by omega), if_pos (by omega)]
  unfold sFH
  rw [va_up_self, va_up_ne _ _ (by omega), va_up_ne _ _ (by omega)]
  rfl
theorem su_S3 (hd : sAd n ad) (hn : n ≤ 6) {k : Nat} (h1 : k < 3 * n) {j0 : Nat} (h0 : j0 = 96 + k) : mup (sM G ad n r f dv M0) (ad (80 + k)) (eO 7 ((sFS ad r k).set 3 (.int x))) = sM G ad n (va_up r j0 x) f dv M0 := by
  subst h0
  have ho : sOw (96 + k) = 80 + k := by
    unfold sOw
    repeat rw [if_neg (by omega)]
    rw [if_pos (by omega)] <;> omega
  refine sM_upr hd hn (by unfold sL; omega) ho ?_
  rw [sC_S (by omega)]
  unfold sFS
  rw [va_up_self]
  rfl
theorem su_L (hd : sAd n ad) (hn : n ≤ 6) {d j : Nat} (h1 : d < 4) (h2 : j < 6) {j0 : Nat} (h0 : j0 = 64 + 6 * d + j) : mup (sM G ad n r f dv M0) (ad (30 + d)) (eI (G.2.1 0) 6 (va_up (sSl r (64 + 6 * d) 6) j x)) = sM G ad n (va_up r j0 x) f dv M0 := by
  subst h0
  have ho : sOw (64 + 6 * d + j) = 30 + d := by
    unfold sOw
    repeat rw [if_neg (by omega)]
    rw [if_pos (by omega)] <;> omega
  refine sM_upr hd hn (by unfold sL; omega) ho ?_
  rw [sC_L (by omega), sSl_up h2 rfl]
theorem su_4 (hd : sAd n ad) (hn : n ≤ 6) {j : Nat} (h2 : j < 4) {j0 : Nat} (h0 : j0 = 116 + j) : mup (sM G ad n r f dv M0) (ad (4)) (eI (G.2.1 0) 4 (va_up (sSl r 116 4) j x)) = sM G ad n (va_up r j0 x) f dv M0 := by
  subst h0
  have ho : sOw (116 + j) = 4 := by
    unfold sOw
    repeat rw [if_neg (by omega)]
    rw [if_pos (by omega)] <;> omega
  refine sM_upr hd hn (by unfold sL; omega) ho ?_
  rw [sSl_up h2 rfl]
  rfl
theorem su_5 (hd : sAd n ad) (hn : n ≤ 6) {j : Nat} (h2 : j < 6) {j0 : Nat} (h0 : j0 = 120 + j) : mup (sM G ad n r f dv M0) (ad (5)) (eI (G.2.1 0) 6 (va_up (sSl r 120 6) j x)) = sM G ad n (va_up r j0 x) f dv M0 := by
  subst h0
  have ho : sOw (120 + j) = 5 := by
    unfold sOw
    repeat rw [if_neg (by omega)]
    rw [if_pos (by omega)] <;> omega
  refine sM_upr hd hn (by unfold sL; omega) ho ?_
  rw [sSl_up h2 rfl]
  rfl
theorem su_V (hd : sAd n ad) (hn : n ≤ 6) {k j : Nat} (h1 : k < 3 * n) (h2 : j < 40) {j0 : Nat} (h0 : j0 = 126 + 40 * k + j) : mup (sM G ad n r f dv M0) (ad (100 + k)) (eI (G.2.1 0) 40 (va_up (sSl r (126 + 40 * k) 40) j x)) = sM G ad n (va_up r j0 x) f dv M0 := by
  subst h0
  have ho : sOw (126 + 40 * k + j) = 100 + k := by
    unfold sOw
    repeat rw [if_neg (by omega)]
    rw [if_pos (by omega)] <;> omega
  refine sM_upr hd hn (by unfold sL; omega) ho ?_
  rw [sC_V (by omega), sSl_up h2 rfl]
theorem su_O (hd : sAd n ad) (hn : n ≤ 6) {k j : Nat} (h1 : k < 3 * n) (h2 : j < 40) {j0 : Nat} (h0 : j0 = 846 + 40 * k + j) : mup (sM G ad n r f dv M0) (ad (120 + k)) (eI (G.2.1 0) 40 (va_up (sSl r (846 + 40 * k) 40) j x)) = sM G ad n (va_up r j0 x) f dv M0 := by
  subst h0
  have ho : sOw (846 + 40 * k + j) = 120 + k := by
    unfold sOw
    repeat rw [if_neg (by omega)]
    rw [if_pos (by omega)] <;> omega
  refine sM_upr hd hn (by unfold sL; omega) ho ?_
  rw [sC_O (by omega), sSl_up h2 rfl]
theorem sC_dv {dv' : Nat → Int32} {i : Nat} (hn : n ≤ 6) (hi : sL n i) (h : ∀ k, i = 60 + k → dv' k = dv k) : sC G ad n r f dv i = sC G ad n r f dv' i := by
  by_cases q : 60 ≤ i ∧ i < 60 + n
  · obtain ⟨k, rfl⟩ : ∃ k, i = 60 + k := ⟨i - 60, by omega⟩
    rw [sC_P (by omega), sC_P (by omega)]
    unfold sFP
    rw [h k rfl]
  · unfold sC
    unfold sL at hi
    by_cases a1 : i < 10
    · rw [if_pos a1, if_pos a1]
    · rw [if_neg a1, if_neg a1]
      by_cases a2 : i < 20
      · rw [if_pos a2, if_pos a2]
      · rw [if_neg a2, if_neg a2]
        by_cases a3 : i < 30
        · rw [if_pos a3, if_pos a3]
        · rw [if_neg a3, if_neg a3]
          by_cases a4 : i < 40
          · rw [if_pos a4, if_pos a4]
          · rw [if_neg a4, if_neg a4]
            by_cases a5 : i < 60
            · rw [if_pos a5, if_pos a5]
            · rw [if_neg a5, if_neg a5, if_neg (show ¬ i < 70 by omega), if_neg (show ¬ i < 70 by omega)]
theorem su_P2 (hd : sAd n ad) (hn : n ≤ 6) {k : Nat} (h1 : k < n) : mup (sM G ad n r f dv M0) (ad (60 + k)) (eO 6 ((sFP ad r dv k).set 2 (.int x))) = sM G ad n r f (va_up dv k x) M0 := by
  refine lay_up hd (by unfold sL; omega) ?_ (fun j hj hne => sC_dv hn hj (fun q hq => va_up_ne _ _ (fun e => hne (by rw [hq, e]))))
  rw [sC_P (by omega)]
  unfold sFP
  rw [va_up_self]
  rfl
theorem su_F (hd : sAd n ad) (hn : n ≤ 6) {k j : Nat} {x : UInt32} (h1 : k < 3 * n) (h2 : j < 40) {j0 : Nat} (h0 : j0 = 40 * k + j) : mup (sM G ad n r f dv M0) (ad (140 + k)) (eF (G.2.1 1) 40 (va_up (sSf f (40 * k) 40) j x)) = sM G ad n r (va_up f j0 x) dv M0 := by
  refine lay_up hd (by unfold sL; omega) ?_ (fun i hi hne => ?_)
  · rw [sC_F, sSf_up h2 h0]
  · unfold sL at hi
    by_cases a : i < 140
    · unfold sC
      rcases Nat.lt_or_ge i 10 with q | q
      · rw [if_pos q, if_pos q]
      · simp only [if_neg (show ¬ i < 10 by omega)]
        simp only [if_pos a]
    · obtain ⟨k2, rfl⟩ : ∃ k2, i = 140 + k2 := ⟨i - 140, by omega⟩
      rw [sC_F, sC_F]
      have e : sSf f (40 * k2) 40 = sSf (va_up f j0 x) (40 * k2) 40 := by
        funext q
        unfold sSf
        by_cases hq : q < 40
        · rw [if_pos hq, if_pos hq, va_up_ne _ _ (by omega)]
        · rw [if_neg hq, if_neg hq]
      rw [e]
end SU1
