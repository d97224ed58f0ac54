/-! A STATE BY ITSELF, drive by drive -/
def stL (j i : Nat) : Prop := (i < 6 ∧ i ≠ 3) ∨ (10 ≤ i ∧ i < 10 + j) ∨ (20 ≤ i ∧ i < 20 + j) ∨ (30 ≤ i ∧ i < 30 + j) ∨ (40 ≤ i ∧ i < 40 + 4 * j)
def stPart (G : mG) (q ua j : Nat) (r : Nat → Int32) (f : Nat → UInt32) (dv : Nat → Int32) (ad : Nat → Nat) (M0 Mx : mM) : Prop := ad 0 = q ∧ ad 1 = ua ∧ lInj (stL j) ad ∧ (∀ i, stL j i → i ≠ 0 → M0 (ad i) = none) ∧ (∀ i, stL j i → 1 < i → Mx (ad i) = some (sC G ad 0 r f dv i))
noncomputable def adD (j : Nat) (ad ap : Nat → Nat) : Nat → Nat := fun i => @ite _ (dL j i) (Classical.propDecidable _) (ap i) (ad i)
section SP
variable {G : mG} {q ua x j : Nat} {ad ap : Nat → Nat} {r : Nat → Int32} {f : Nat → UInt32} {dv : Nat → Int32} {M0 Mx M1 : mM}
theorem adD_p {i : Nat} (h : dL j i) : adD j ad ap i = ap i := by
  unfold adD
  rw [if_pos h]
theorem adD_s {i : Nat} (h : ¬ dL j i) : adD j ad ap i = ad i := by
  unfold adD
  rw [if_neg h]
theorem stL_d {i : Nat} (hj : j < 4) (h : stL j i) : ¬ dL j i := by
  unfold stL at h
  unfold dL
  omega
theorem stL_J {i : Nat} (hj : j < 4) (h : stL (j + 1) i) : stL j i ∨ dL j i := by
  unfold stL at h
  unfold stL dL
  omega
theorem sC_K (hj : j < 4) {i : Nat} (h : stL j i) (h1 : 1 < i) : sC G (adD j ad ap) 0 r f dv i = sC G ad 0 r f dv i := by
  have w : ∀ b c, b ≤ i → i < b + c → ∃ d, d < c ∧ i = b + d := fun b c x y => ⟨i - b, by omega, by omega⟩
  have hs : ∀ {i : Nat}, ¬ dL j i → adD j ad ap i = ad i := fun a => adD_s a
  have hc : i = 2 ∨ i = 4 ∨ i = 5 ∨ (∃ d, d < j ∧ i = 10 + d) ∨ (∃ d, d < j ∧ i = 20 + d) ∨ (∃ d, d < j ∧ i = 30 + d) ∨ (∃ d, d < 4 * j ∧ i = 40 + d) := by
    unfold stL at h
    rcases h with h | h | h | h | h
    · omega
    · exact Or.inr (Or.inr (Or.inr (Or.inl (w 10 j h.1 h.2))))
    · exact Or.inr (Or.inr (Or.inr (Or.inr (Or.inl (w 20 j h.1 h.2)))))
    · exact Or.inr (Or.inr (Or.inr (Or.inr (Or.inr (Or.inl (w 30 j h.1 h.2))))))
    · exact Or.inr (Or.inr (Or.inr (Or.inr (Or.inr (Or.inr (w 40 _ h.1 h.2))))))
  rcases hc with rfl | rfl | rfl | ⟨d, hl, rfl⟩ | ⟨d, hl, rfl⟩ | ⟨d, hl, rfl⟩ | ⟨d, hl, rfl⟩
  · rfl
  · rfl
  · rfl
  · rw [sC_D (by omega), sC_D (by omega)]
    dsimp only [sFD]
    rw [hs (i := 20 + d) (by unfold dL; omega), hs (i := 40 + (4 * d + 3)) (by unfold dL; omega), hs (i := 30 + d) (by unfold dL; omega)]
  · rw [sC_A (by omega), sC_A (by omega), sSa_eq (fun i hi => hs (by unfold dL; omega))]
  · rw [sC_L (by omega), sC_L (by omega)]
  · rw [sC_H (by omega), sC_H (by omega)]
theorem sC_KD (hj : j < 4) {i : Nat} (h : dL j i) : sC G (adD j ad ap) 0 r f dv i = sC G ap 0 r f dv i := by
  have hp : ∀ {i : Nat}, dL j i → adD j ad ap i = ap i := fun a => adD_p a
  have hc : i = 10 + j ∨ i = 20 + j ∨ i = 30 + j ∨ (∃ d, d < 4 ∧ i = 40 + (4 * j + d)) := by
    unfold dL at h
    rcases h with h | h | h | h
    · exact Or.inl h
    · exact Or.inr (Or.inl h)
    · exact Or.inr (Or.inr (Or.inl h))
    · exact Or.inr (Or.inr (Or.inr ⟨i - (40 + 4 * j), by omega, by omega⟩))
  rcases hc with rfl | rfl | rfl | ⟨d, hl, rfl⟩
  · rw [sC_D (by omega), sC_D (by omega)]
    dsimp only [sFD]
    rw [hp (i := 20 + j) (by unfold dL; omega), hp (i := 40 + (4 * j + 3)) (by unfold dL; omega), hp (i := 30 + j) (by unfold dL; omega)]
  · rw [sC_A (by omega), sC_A (by omega), sSa_eq (fun i hi => hp (by unfold dL; omega))]
  · rw [sC_L (by omega), sC_L (by omega)]
  · rw [sC_H (by omega), sC_H (by omega)]
theorem stStep {eq : mE} (hj : j < 4) (hN : NewB M0 q Mx) (hq : Mx q = some eq) (hua : Mx ua = some (eQ (G.2.1 6) 4 (sSa ad 10 j))) (hp : stPart G q ua j r f dv ad M0 Mx) (hu : drMade G x j r f dv Mx M1) :
    ∃ ad', stPart G q ua (j + 1) r f dv ad' M0 (mup M1 ua (eQ (G.2.1 6) 4 (va_up (sSa ad 10 j) j (some x)))) ∧ va_up (sSa ad 10 j) j (some x) = sSa ad' 10 (j + 1) ∧ (∀ i, i < 10 → ad' i = ad i) := by
  obtain ⟨p1, p2, p3, p4, p5⟩ := hp
  obtain ⟨ap, u1, u2, u3, u4, u5⟩ := hu
  have l1 : stL j 1 := by unfold stL; omega
  have hall : ∀ i, stL j i → ∃ e, Mx (ad i) = some e := fun i a => by
    by_cases i0 : i = 0
    · exact ⟨_, by rw [i0, p1]; exact hq⟩
    · by_cases i1 : i = 1
      · exact ⟨_, by rw [i1, p2]; exact hua⟩
      · exact ⟨_, p5 i a (by omega)⟩
  have hne : ∀ i k, stL j i → dL j k → ad i ≠ ap k := fun i k a b => by
    obtain ⟨e, he⟩ := hall i a
    exact kp_ne (u3 k b) he
  refine ⟨adD j ad ap, ⟨(adD_s (by unfold dL; omega)).trans p1, (adD_s (by unfold dL; omega)).trans p2, fun a b ha hb e => ?_, fun i hi i0 => ?_, fun i hi i1 => ?_⟩, ?_, fun i hi => adD_s (by unfold dL; omega)⟩
  · rcases stL_J hj ha with ha | ha <;> rcases stL_J hj hb with hb | hb
    · rw [adD_s (stL_d hj ha), adD_s (stL_d hj hb)] at e
      exact p3 _ _ ha hb e
    · rw [adD_s (stL_d hj ha), adD_p hb] at e
      exact absurd e (hne _ _ ha hb)
    · rw [adD_p ha, adD_s (stL_d hj hb)] at e
      exact absurd e.symm (hne _ _ hb ha)
    · rw [adD_p ha, adD_p hb] at e
      exact u2 _ _ ha hb e
  · rcases stL_J hj hi with hi | hi
    · rw [adD_s (stL_d hj hi)]
      exact p4 i hi i0
    · rw [adD_p hi]
      exact NewB.none hN hq (u3 i hi)
  · rcases stL_J hj hi with hi | hi
    · rw [adD_s (stL_d hj hi), sC_K hj hi i1, mup_ne (fun e => absurd (p3 _ _ hi l1 (e.trans p2.symm)) (by omega))]
      exact u4 _ _ (p5 i hi i1)
    · rw [adD_p hi, sC_KD hj hi, mup_ne (fun e => hne 1 i l1 hi (p2.trans e.symm))]
      exact u5 i hi
  · have e : sSa ad 10 j = sSa (adD j ad ap) 10 j := sSa_eq fun k hk => (adD_s (by unfold dL; omega)).symm
    rw [← sSa_up, adD_p (i := 10 + j) (by unfold dL; omega), u1, e]
def stNew (G : mG) (q : Nat) (r : Nat → Int32) (f : Nat → UInt32) (dv : Nat → Int32) (M0 M1 : mM) : Prop := ∃ ad : Nat → Nat, ad 0 = q ∧ sAd 0 ad ∧ (∀ i, sL 0 i → i ≠ 0 → M0 (ad i) = none) ∧ NewB M0 q M1 ∧ sAt G ad 0 r f dv M1
theorem stNew.of (hN : NewB M0 q Mx) (hp : stPart G q ua 4 r f dv ad M0 Mx) (hq : Mx q = some (eO 1 [.ref ua, .ref (ad 2), .ref (ad 4), .ref (ad 5), .int (r 88), .int (r 114), .int (r 115)])) (hua : Mx ua = some (eQ (G.2.1 6) 4 (sSa ad 10 4))) : stNew G q r f dv M0 Mx := by
  obtain ⟨p1, p2, p3, p4, p5⟩ := hp
  have hL : ∀ i, sL 0 i → stL 4 i := fun i h => by unfold sL at h; unfold stL; omega
  refine ⟨ad, p1, fun i k a b e => p3 _ _ (hL i a) (hL k b) e, fun i a b => p4 i (hL i a) b, hN, fun i a => ?_⟩
  by_cases i0 : i = 0
  · subst i0
    rw [p1, hq]
    show _ = some (eO 1 (sF0 ad r))
    dsimp only [sF0]
    rw [p2]
  · by_cases i1 : i = 1
    · subst i1
      rw [p2, hua]
      rfl
    · exact p5 i (hL i a) (by omega)
theorem stPart.start {a l b c : Nat} (h01 : q ≠ a) (h02 : q ≠ l) (h03 : q ≠ b) (h04 : q ≠ c) (h12 : a ≠ l) (h13 : a ≠ b) (h14 : a ≠ c) (h23 : l ≠ b) (h24 : l ≠ c) (h34 : b ≠ c) (z1 : M0 a = none) (z2 : M0 l = none) (z3 : M0 b = none) (z4 : M0 c = none)
    (hl : Mx l = some (eO 9 [.int (nI 0), .ref G.2.2, .int (nI 0)])) (hb : Mx b = some (eI (G.2.1 0) 4 (sSl r 116 4))) (hc : Mx c = some (eI (G.2.1 0) 6 (sSl r 120 6))) : stPart G q a 0 r f dv (fun i => if i = 0 then q else if i = 1 then a else if i = 2 then l else if i = 4 then b else c) M0 Mx := by
  have hL : ∀ i, stL 0 i → i = 0 ∨ i = 1 ∨ i = 2 ∨ i = 4 ∨ i = 5 := fun i h => by unfold stL at h; omega
  refine ⟨rfl, rfl, fun i k hi hk e => ?_, fun i hi h0 => ?_, fun i hi h1 => ?_⟩
  · have ci := hL i hi
    have ck := hL k hk
    rcases ci with rfl | rfl | rfl | rfl | rfl <;> rcases ck with rfl | rfl | rfl | rfl | rfl <;> first | rfl | exact absurd e h01 | exact absurd e h02 | exact absurd e h03 | exact absurd e h04 | exact absurd e h12 | exact absurd e h13 | exact absurd e h14 | exact absurd e h23 | exact absurd e h24 | exact absurd e h34 | exact absurd e.symm h01 | exact absurd e.symm h02 | exact absurd e.symm h03 | exact absurd e.symm h04 | exact absurd e.symm h12 | exact absurd e.symm h13 | exact absurd e.symm h14 | exact absurd e.symm h23 | exact absurd e.symm h24 | exact absurd e.symm h34
  · rcases hL i hi with rfl | rfl | rfl | rfl | rfl
    · exact absurd rfl h0
    · exact z1
    · exact z2
    · exact z3
    · exact z4
  · rcases hL i hi with rfl | rfl | rfl | rfl | rfl
    · omega
    · omega
    · exact hl
    · exact hb
    · exact hc
end SP
theorem drMade.cell {G : mG} {q d : Nat} {r : Nat → Int32} {f : Nat → UInt32} {dv : Nat → Int32} {M0 M1 : mM} (hd : d < 4) (h : drMade G q d r f dv M0 M1) : ∃ fs, M1 q = some (eO 2 fs) ∧ New M0 M1 := by
  obtain ⟨ap, p1, p2, p3, p4, p5⟩ := h
  have a := p5 (10 + d) (by unfold dL; omega)
  rw [p1, sC_D (by omega)] at a
  exact ⟨_, a, p4⟩
