/-! THE SYSTEM'S WRITING AND READING are the reference's -/
theorem nZ01 {x : Int32} (h : x = nI 0 ∨ x = nI 1) : narrow .boolean (.int x) = .int x := by
  rcases h with rfl | rfl <;> rfl
theorem fZ01 {x : Int32} (h : x = nI 0 ∨ x = nI 1) : fits .boolean (.int x) = true := by
  rcases h with rfl | rfl <;> rfl
theorem and01 {x : Int32} (h : x = nI 0 ∨ x = nI 1) : x &&& nI 1 = x := by
  rcases h with rfl | rfl <;> decide
theorem and00 {x : Int32} (h : x = nI 0 ∨ x = nI 1) : x &&& nI 0 = nI 0 := by
  rcases h with rfl | rfl <;> decide
abbrev wrW (r : Nat → Int32) (d h : Nat) : UInt32 := if r (16 + (4 * d + h)) = 0 then FP.fconst1 else FP.fdiv FP.fconst1 FP.fconst2
theorem wr_W {r : Nat → Int32} {f : Nat → UInt32} {d h : Nat} (hI : mInv r f) (h1 : d < 4) (h2 : h < 3) : wrW r d h = if r (16 + (4 * d + h)) = nI 1 then f05 else FP.fconst1 := by
  unfold wrW
  rcases hI.2.2.2.1 (4 * d + h) (by omega) with z | z
  · have z0 : r (16 + (4 * d + h)) = 0 := z
    have z1 : ¬ r (16 + (4 * d + h)) = nI 1 := by rw [z]; decide
    rw [if_pos z0, if_neg z1]
  · have z1 : ¬ r (16 + (4 * d + h)) = 0 := by rw [z]; decide
    rw [if_neg z1, if_pos z]
    exact fs_half1
theorem wr_N {r : Nat → Int32} {f : Nat → UInt32} {d h : Nat} (hI : mInv r f) (h1 : d < 4) (h2 : h < 3) : vf_n32 (FP.fmul (wrW r d h) f75) := by
  rw [wr_W hI h1 h2]
  split
  · exact fs_75_5n
  · exact fs_75_1n
theorem wr_E {r : Nat → Int32} {f : Nat → UInt32} {d h k q0 : Nat} (hI : mInv r f) (h1 : d < 4) (h2 : h < 3) (h3 : k < 6) (h4 : q0 < 40) : (if ¬ r (126 + (40 * (3 * k + h) + q0)) = -1 ∧ nI 10 < mAp (r (846 + (40 * (3 * k + h) + q0))) (mPl r d h k q0) then FP.fmul (wrW r d h) f75 else wrW r d h) = nWrS r d h k q0 := by
  have e := mAp_gt (mPl_bnd hI h1 (show h < 4 by omega) h3 h4) (hI.2.2.2.2.2.2.2.2.2.2.1 (40 * (3 * k + h) + q0) (by omega)) (by decide)
  rw [wr_W hI h1 h2]
  unfold nWrS
  by_cases q : ¬ r (126 + (40 * (3 * k + h) + q0)) = -1 ∧ nI 10 < mAp (r (846 + (40 * (3 * k + h) + q0))) (mPl r d h k q0)
  · have q2 : ¬ r (126 + (40 * (3 * k + h) + q0)) = -1 ∧ (nI 10 < mPl r d h k q0 - r (846 + (40 * (3 * k + h) + q0)) ∨ mPl r d h k q0 - r (846 + (40 * (3 * k + h) + q0)) < -10) := ⟨q.1, e.mp q.2⟩
    rw [if_pos q, if_pos q2]
  · have q2 : ¬ (¬ r (126 + (40 * (3 * k + h) + q0)) = -1 ∧ (nI 10 < mPl r d h k q0 - r (846 + (40 * (3 * k + h) + q0)) ∨ mPl r d h k q0 - r (846 + (40 * (3 * k + h) + q0)) < -10)) := fun z => q ⟨z.1, e.mpr z.2⟩
    rw [if_neg q, if_neg q2]
theorem rd_A {r : Nat → Int32} {d k t c : Nat} {q m : Int32} (hc : c = if q = -1 then 115 else 114) (hm : nMany q t = m) (h1 : d < 4) (h3 : k < 6) : va_up (va_up (va_up r (116 + d) (r (116 + d) + m)) (120 + k) ((va_up r (116 + d) (r (116 + d) + m)) (120 + k) + m)) c ((va_up (va_up r (116 + d) (r (116 + d) + m)) (120 + k) ((va_up r (116 + d) (r (116 + d) + m)) (120 + k) + m)) c + nI 1) = nRdA r d k t q := by
  have k1 : c = 114 ∨ c = 115 := by rw [hc]; split <;> decide
  have hx : va_up r (116 + d) (r (116 + d) + m) (120 + k) = r (120 + k) := va_up_ne _ _ (by omega)
  have hy : va_up (va_up r (116 + d) (r (116 + d) + m)) (120 + k) (r (120 + k) + m) c = r c := (va_up_ne _ _ (by omega)).trans (va_up_ne _ _ (by omega))
  unfold nRdA
  dsimp only
  rw [hm, ← hc, hx, hy]
  rw [va_up_ne (va_up r c (r c + nI 1)) _ (show 120 + k ≠ 116 + d by omega), va_up_ne r (r c + nI 1) (show 116 + d ≠ c by omega), va_up_ne r (r c + nI 1) (show 120 + k ≠ c by omega)]
  rw [va_up_sw _ _ _ (show c ≠ 120 + k by omega), va_up_sw _ _ _ (show c ≠ 116 + d by omega)]
theorem nClip_id {x : Int32} (h : bnd 40 x) : nClip x = x := by
  obtain ⟨a, b⟩ := h
  have e1 : (nI 40).toInt = 40 := by decide
  have e2 : (-40 : Int32).toInt = -40 := by decide
  unfold nClip
  rw [if_neg (by rw [Int32.lt_iff_toInt_lt]; omega), if_neg (by rw [Int32.lt_iff_toInt_lt]; omega)]
theorem rd_R {r : Nat → Int32} {f : Nat → UInt32} {d k t j : Nat} (hI : mInv r f) (h1 : d < 4) (h3 : k < 6) (hj : j < 17) : va_up (nRdA r d k t (nI j)) (64 + 6 * d + k) (nClip ((nRdA r d k t (nI j)) (64 + 6 * d + k) + mTr j)) = nRdR r d k t (nI j) := by
  unfold nRdR
  rw [nD_nI (show j < 2 ^ 31 by omega)]
  by_cases q : 0 < j
  · rw [if_pos (by have := (nK_lt (a := 0) (b := j) (by decide) (by omega)).mpr q; exact this)]
  · have : j = 0 := by omega
    subst this
    rw [if_neg (by decide), show mTr 0 = nI 0 by decide]
    have e : (nRdA r d k t (nI 0)) (64 + 6 * d + k) = r (64 + (6 * d + k)) := (nRdA_at (by omega)).trans (by rw [show 64 + 6 * d + k = 64 + (6 * d + k) by omega])
    refine va_up_id ?_
    rw [e, show r (64 + (6 * d + k)) + nI 0 = r (64 + (6 * d + k)) from Int32.add_zero _, nClip_id (hI.2.2.2.2.2.2.2.1 _ (by omega))]
theorem mRt_or (r : Nat → Int32) (f : Nat → UInt32) (d h k q0 : Nat) {t : Nat} (ht : t ≤ 8) : mRt r f d h k q0 t = -1 ∨ ∃ j, j < 17 ∧ mRt r f d h k q0 t = nI j := by
  rcases mFst_or (P := fun k0 => mOk (mSg r f d h k q0 (mTr k0))) (2 * t + 1) 0 with q | ⟨j, -, h2, -, h4, -⟩
  · exact Or.inl q
  · exact Or.inr ⟨j, by omega, h4⟩
