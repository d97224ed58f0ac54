/-! THE ORDERS CARRIED OUT, all -/
theorem rPos_ge (b : Nat → Int32) (nb : Nat) : ∀ i, i ≤ rPos b nb i := by
  intro i
  induction i with
  | zero => exact Nat.zero_le _
  | succ i ih =>
    have := tPart_ge b nb (tSg b nb (rPos b nb i)) (rPos b nb i)
    show i + 1 ≤ (tPart b nb (tSg b nb (rPos b nb i)) (rPos b nb i)).1 + 1
    omega
theorem sM_out {G : mG} {ad : Nat → Nat} {n : Nat} {r : Nat → Int32} {f : Nat → UInt32} {dv : Nat → Int32} {M0 : mM} {q : Nat} (h : ∀ i, sL n i → ad i ≠ q) : sM G ad n r f dv M0 q = M0 q := lay_out h
section RDE
variable {b : Nat → Int32} {nb n sp : Nat} {r : Nat → Int32} {f : Nat → UInt32}
theorem tRun_end (h : ¬ sp < nb) : tRun b nb n sp r f = (0, r, f) := by
  cases n with
  | zero => rfl
  | succ n => unfold tRun; exact if_neg h
theorem tRun_no (h : sp < nb) (hp : ¬ (tDo r f (tSg b nb sp) (tPart b nb (tSg b nb sp) sp).2.2.1 (tPart b nb (tSg b nb sp) sp).2.2.2.1 (tPart b nb (tSg b nb sp) sp).2.2.2.2).1 = true) : tRun b nb (n + 1) sp r f = (0, (tDo r f (tSg b nb sp) (tPart b nb (tSg b nb sp) sp).2.2.1 (tPart b nb (tSg b nb sp) sp).2.2.2.1 (tPart b nb (tSg b nb sp) sp).2.2.2.2).2) := by
  conv => lhs; unfold tRun
  rw [if_pos h, if_neg hp]
theorem tRun_on (h : sp < nb) (hp : (tDo r f (tSg b nb sp) (tPart b nb (tSg b nb sp) sp).2.2.1 (tPart b nb (tSg b nb sp) sp).2.2.2.1 (tPart b nb (tSg b nb sp) sp).2.2.2.2).1 = true) : tRun b nb (n + 1) sp r f = ((tRun b nb n ((tPart b nb (tSg b nb sp) sp).1 + 1) (tDo r f (tSg b nb sp) (tPart b nb (tSg b nb sp) sp).2.2.1 (tPart b nb (tSg b nb sp) sp).2.2.2.1 (tPart b nb (tSg b nb sp) sp).2.2.2.2).2.1 (tDo r f (tSg b nb sp) (tPart b nb (tSg b nb sp) sp).2.2.1 (tPart b nb (tSg b nb sp) sp).2.2.2.1 (tPart b nb (tSg b nb sp) sp).2.2.2.2).2.2).1 + 1, (tRun b nb n ((tPart b nb (tSg b nb sp) sp).1 + 1) (tDo r f (tSg b nb sp) (tPart b nb (tSg b nb sp) sp).2.2.1 (tPart b nb (tSg b nb sp) sp).2.2.2.1 (tPart b nb (tSg b nb sp) sp).2.2.2.2).2.1 (tDo r f (tSg b nb sp) (tPart b nb (tSg b nb sp) sp).2.2.1 (tPart b nb (tSg b nb sp) sp).2.2.2.1 (tPart b nb (tSg b nb sp) sp).2.2.2.2).2.2).2) := by
  conv => lhs; unfold tRun
  rw [if_pos h, if_pos hp]
end RDE
