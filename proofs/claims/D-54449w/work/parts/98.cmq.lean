/-! A STATE IN THE MAKING, pack by pack -/
def stHas (G : mG) (q k : Nat) (r : Nat → Int32) (f : Nat → UInt32) (dv : Nat → Int32) (ad : Nat → Nat) (M0 Mx : mM) : Prop := ad 0 = q ∧ sAd k ad ∧ (∀ i, sL k i → i ≠ 0 → M0 (ad i) = none) ∧ NewB M0 q Mx ∧ sAt G ad k r f dv Mx
section SH
variable {G : mG} {q k v e3 : Nat} {ad : Nat → Nat} {r : Nat → Int32} {f : Nat → UInt32} {dv : Nat → Int32} {M0 Mx Mp M1 : mM}
theorem stHas.start (h : stNew G q r f dv M0 Mx) : ∃ ad, stHas G q 0 r f dv ad M0 Mx := h
theorem stHas.step (hk : k < 6) (h : stHas G q k r f dv ad M0 Mx) (hP : pkMade G v k r f dv Mx Mp) (he : k ≠ 0 → e3 = ad 3) (he0 : k = 0 → Mp e3 = none)
    (hM : M1 = mup (mup Mp e3 (eQ (G.2.1 4) 10 (va_up (sSa ad 60 k) k (some v)))) (ad 2) (eO 9 [.int (nI (k + 1)), .ref e3, .int (nI (k + 1))])) : ∃ ad', stHas G q (k + 1) r f dv ad' M0 M1 := by
  obtain ⟨a1, a2, a3, a4, a5⟩ := h
  obtain ⟨ad', b1, b2, b3, b4, b5⟩ := sAt.added hk a2 a5 hP (fun _ _ _ _ => rfl) (fun _ _ => rfl) (fun _ _ => rfl) he he0 hM
  have hq : Mx q = some (eO 1 (sF0 ad r)) := by rw [← a1]; exact sq_0 a5
  refine ⟨ad', b2.trans a1, b1, fun i hi i0 => ?_, fun a x h hb => b4 a x (a4 a x h hb) (fun i hi e => ?_), b3⟩
  · rcases b5 i hi with ⟨j, hj, e⟩ | e
    · rw [e]
      refine a3 j hj fun j0 => i0 (b1 _ _ hi (by unfold sL; omega) ?_)
      rw [e, j0, b2]
    · exact NewB.none a4 hq e
  · by_cases i0 : i = 0
    · rw [i0, a1] at e
      exact hb e.symm
    · have z := a3 i hi i0
      rw [e, h] at z
      cases z
end SH
def stMade (G : mG) (q n : Nat) (r : Nat → Int32) (f : Nat → UInt32) (dv : Nat → Int32) (M0 M1 : mM) : Prop := ∃ ad : Nat → Nat, ad 0 = q ∧ sAd n ad ∧ (∀ i, sL n i → M0 (ad i) = none) ∧ New M0 M1 ∧ sAt G ad n r f dv M1
theorem stMade.of {G : mG} {q n : Nat} {r : Nat → Int32} {f : Nat → UInt32} {dv : Nat → Int32} {ad : Nat → Nat} {M0 M1 : mM} {e : mE} (hq : M0 q = none) (h : stHas G q n r f dv ad (mup M0 q e) M1) : stMade G q n r f dv M0 M1 := by
  obtain ⟨a1, a2, a3, a4, a5⟩ := h
  have hn : New M0 (mup M0 q e) := fun a x h => kp_new hq h
  refine ⟨ad, a1, a2, fun i hi => ?_, fun a x h => a4 a x (hn a x h) (kp_ne hq h), a5⟩
  by_cases i0 : i = 0
  · rw [i0, a1]; exact hq
  · exact hn.none (a3 i hi i0)
