/-! THE SYSTEM'S SIGNAL is the reference's -/
abbrev sgX (r : Nat → Int32) (f : Nat → UInt32) (d h k q0 : Nat) (o : Int32) : UInt32 := if r (126 + (40 * (3 * k + h) + q0)) = -1 then FP.fconst0 else fSg (mAp (mPl r d h k q0 + o) (r (846 + (40 * (3 * k + h) + q0)))) (f (40 * (3 * k + h) + q0))
section SG0
variable {r : Nat → Int32} {f : Nat → UInt32} {d h k q0 : Nat} {o : Int32}
theorem sg_e (hI : mInv r f) (h1 : d < 4) (h2 : h < 3) (h3 : k < 6) (h4 : q0 < 40) (ho : bnd 40 o) : mAp (mPl r d h k q0 + o) (r (846 + (40 * (3 * k + h) + q0))) = mAb (mPl r d h k q0 + o - r (846 + (40 * (3 * k + h) + q0))) :=
  mAp_mAb (bnd_add (mPl_bnd hI h1 (by omega) h3 h4) ho (C := 4120) (by decide) (by decide)) (hI.2.2.2.2.2.2.2.2.2.2.1 _ (by omega)) (by decide)
theorem sg_A (hI : mInv r f) (h1 : d < 4) (h2 : h < 3) (h3 : k < 6) (h4 : q0 < 40) (ho : bnd 40 o) : ¬ mAp (mPl r d h k q0 + o) (r (846 + (40 * (3 * k + h) + q0))) < nI 20 ∨ ∃ e, e < 20 ∧ mAp (mPl r d h k q0 + o) (r (846 + (40 * (3 * k + h) + q0))) = nI e := by
  rw [sg_e hI h1 h2 h3 h4 ho]
  by_cases q : mAb (mPl r d h k q0 + o - r (846 + (40 * (3 * k + h) + q0))) < nI 20
  · exact Or.inr (mSg_fin hI h1 h2 h3 h4 ho q)
  · exact Or.inl q
theorem sg_S (hI : mInv r f) (h2 : h < 3) (h3 : k < 6) (h4 : q0 < 40) : f (40 * (3 * k + h) + q0) ∈ fsL := hI.2.2.2.2.2.2.2.2.2.2.2.1 _ (by omega)
theorem sg_N (hI : mInv r f) (h1 : d < 4) (h2 : h < 3) (h3 : k < 6) (h4 : q0 < 40) (ho : bnd 40 o) : vf_n32 (FP.fdiv (sgX r f d h k q0 o) FP.fconst2) := by
  unfold sgX fSg
  split
  · exact fs_halfN' fs_0
  · split
    · rename_i q
      obtain ⟨e, he, e2⟩ := (sg_A hI h1 h2 h3 h4 ho).resolve_left (fun z => z q)
      rw [e2]
      exact (fs_sig' he (sg_S hI h2 h3 h4)).2
    · exact fs_halfN' fs_0
theorem sg_E (hI : mInv r f) (h1 : d < 4) (h2 : h < 3) (h3 : k < 6) (h4 : q0 < 40) (ho : bnd 40 o) : (if r (16 + (4 * d + h)) = 0 then sgX r f d h k q0 o else FP.fdiv (sgX r f d h k q0 o) FP.fconst2) = mSg r f d h k q0 o := by
  unfold sgX mSg fSg
  rw [sg_e hI h1 h2 h3 h4 ho]
  by_cases q1 : r (126 + (40 * (3 * k + h) + q0)) = -1
  · rw [if_pos q1, if_pos (Or.inl q1)]
    split
    · rfl
    · exact fs_half0
  · rw [if_neg q1]
    by_cases q2 : mAb (mPl r d h k q0 + o - r (846 + (40 * (3 * k + h) + q0))) < nI 20
    · have hn : ¬ (r (126 + (40 * (3 * k + h) + q0)) = -1 ∨ ¬ mAb (mPl r d h k q0 + o - r (846 + (40 * (3 * k + h) + q0))) < nI 20) := fun z => z.elim q1 (fun w => w q2)
      rw [if_pos q2, if_neg hn]
      rcases hI.2.2.2.1 (4 * d + h) (by omega) with z | z
      · have z0 : r (16 + (4 * d + h)) = 0 := z
        have z1 : ¬ r (16 + (4 * d + h)) = nI 1 := by rw [z]; decide
        rw [if_pos z0, if_neg z1]
      · have z1 : ¬ r (16 + (4 * d + h)) = 0 := by rw [z]; decide
        rw [if_neg z1, if_pos z]
    · rw [if_neg q2, if_pos (Or.inr q2)]
      split
      · rfl
      · exact fs_half0
end SG0
theorem va_up_id {α : Type} {f : Nat → α} {a : Nat} {x : α} (h : f a = x) : va_up f a x = f := by
  funext j
  unfold va_up
  by_cases q : j = a
  · rw [if_pos q, q, h]
  · rw [if_neg q]
