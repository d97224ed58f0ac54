/-! WHAT THE OPERATIONS DO TO THE NUMBERS: refusals by code, next rows, next strengths -/
abbrev nD (x : Int32) : Nat := x.toNatClampNeg
theorem nD_nI {k : Nat} (hk : k < 2 ^ 31) : nD (nI k) = k := nI_nat hk
noncomputable def kServo (r : Nat → Int32) (x o : Int32) : Nat := cd2 (inN x 4) (¬ (¬ o = 0 ∧ r (16 + (4 * nD x + 3)) = nI 1))
noncomputable def kMount (r : Nat → Int32) (x y : Int32) : Nat := cd2 (inN x 4 ∧ inN y (nD (r 89))) (r (60 + nD x) = -1 ∧ mDw r y = -1)
noncomputable def kPack (r : Nat → Int32) (x : Int32) : Nat := cd2 (inN x 4) (¬ r (60 + nD x) = -1)
noncomputable def kSeek (r : Nat → Int32) (x y : Int32) : Nat := cd2 (inN x 4 ∧ inN y 40) (¬ r (60 + nD x) = -1)
noncomputable def kRead (r : Nat → Int32) (x y : Int32) : Nat := cd2 (inN x 4 ∧ inN y 3) (¬ r (60 + nD x) = -1)
noncomputable def kWrite (r : Nat → Int32) (x y z : Int32) : Nat := cd3 (inN x 4 ∧ inN y 3) (inN z 1000) (¬ r (60 + nD x) = -1)
noncomputable def kSig (r : Nat → Int32) (x y z : Int32) : Nat := cd3 (inN x 4 ∧ inN y 3) (bnd 40 z) (¬ r (60 + nD x) = -1)
noncomputable def kPolish (r : Nat → Int32) (x : Int32) : Nat := cd2 (inN x (nD (r 89))) (mDw r x = -1)
noncomputable def kAdjust (x y z : Int32) : Nat := cd2 (inN x 4 ∧ inN y 4) (bnd 40 z)
noncomputable def kWarm (x z : Int32) : Nat := cd2 (inN x 4) (bnd 20 z)
noncomputable def kMake (r : Nat → Int32) (x : Int32) : Nat := cd2 (inN x 4) (¬ (r 89 = nI 6 ∨ r (16 + (4 * nD x + 3)) = nI 1))
noncomputable def kTries (z : Int32) : Nat := cd1 (inN z 9)
noncomputable def kDp (r : Nat → Int32) (x y : Int32) : Nat := cd1 (inN x 4 ∧ inN y (nD (r 89)))
noncomputable def kHead (x y : Int32) : Nat := cd1 (inN x 4 ∧ inN y 4)
noncomputable def kDrive (x : Int32) : Nat := cd1 (inN x 4)
noncomputable def kPk (r : Nat → Int32) (x : Int32) : Nat := cd1 (inN x (nD (r 89)))
noncomputable def kSf (r : Nat → Int32) (x y : Int32) : Nat := cd1 (inN x (nD (r 89)) ∧ inN y 3)
noncomputable def kTk (r : Nat → Int32) (x y z : Int32) : Nat := cd1 (inN x (nD (r 89)) ∧ inN y 3 ∧ inN z 40)
noncomputable def kPos (r : Nat → Int32) (x y z : Int32) : Nat := cd2 (inN x (nD (r 89)) ∧ inN y 3 ∧ inN z 40) (¬ r (126 + (40 * (3 * nD x + nD y) + nD z)) = -1)
noncomputable def kGap (r : Nat → Int32) (x y : Int32) : Nat := cd2 (inN x 4 ∧ inN y 3) (¬ r (60 + nD x) = -1 ∧ ¬ r (126 + (40 * (3 * nD (r (60 + nD x)) + nD y) + nD (r (52 + nD x)))) = -1)
theorem cd2_z {P P2 : Prop} (h : cd2 P P2 = 0) : P ∧ P2 := by
  by_cases h1 : P
  · by_cases h2 : P2
    · exact ⟨h1, h2⟩
    · rw [cd2_2 h1 h2] at h; exact absurd h (by decide)
  · rw [cd2_1 h1] at h; exact absurd h (by decide)
theorem cd3_z {P P2 P3 : Prop} (h : cd3 P P2 P3 = 0) : P ∧ P2 ∧ P3 := by
  by_cases h1 : P
  · by_cases h2 : P2
    · by_cases h3 : P3
      · exact ⟨h1, h2, h3⟩
      · rw [cd3_3 h1 h2 h3] at h; exact absurd h (by decide)
    · rw [cd3_2 h1 h2] at h; exact absurd h (by decide)
  · rw [cd3_1 h1] at h; exact absurd h (by decide)
theorem cd1_z {P : Prop} (h : cd1 P = 0) : P := Classical.byContradiction fun q => by rw [cd1_1 q] at h; exact absurd h (by decide)
theorem cd1_le (P : Prop) : cd1 P ≤ 3 := by
  by_cases h : P
  · rw [cd1_0 h]; decide
  · rw [cd1_1 h]; decide
theorem cd2_le (P P2 : Prop) : cd2 P P2 ≤ 3 := by
  by_cases h : P
  · by_cases h2 : P2
    · rw [cd2_0 h h2]; decide
    · rw [cd2_2 h h2]; decide
  · rw [cd2_1 h]; decide
theorem cd3_le (P P2 P3 : Prop) : cd3 P P2 P3 ≤ 3 := by
  by_cases h : P
  · by_cases h2 : P2
    · by_cases h3 : P3
      · rw [cd3_0 h h2 h3]; decide
      · rw [cd3_3 h h2 h3]; decide
    · rw [cd3_2 h h2]; decide
  · rw [cd3_1 h]; decide
theorem bnd_iff {B : Nat} {x lo : Int32} (hB : B < 2 ^ 31) (hlo : lo.toInt = -(B : Int)) : (lo ≤ x ∧ x ≤ nI B) ↔ bnd B x := by
  rw [Int32.le_iff_toInt_le, Int32.le_iff_toInt_le, nI_toInt hB, hlo]
  exact Iff.rfl
/-- what comes behind a reading or a writing -/
def nRubR (r : Nat → Int32) (d n p0 : Nat) : Nat → Int32 :=
  if r (16 + (4 * d + n)) = nI 1 then va_up r (96 + 3 * p0 + n) (nI 1)
  else if r (96 + 3 * p0 + n) = nI 1 then
    if r (32 + (4 * d + n)) + nI 1 = nI 3 then va_up (va_up (va_up r (32 + (4 * d + n)) (r (32 + (4 * d + n)) + nI 1)) (16 + (4 * d + n)) (nI 1)) (32 + (4 * d + n)) (nI 0)
    else va_up r (32 + (4 * d + n)) (r (32 + (4 * d + n)) + nI 1)
  else r
def nRubF (r : Nat → Int32) (f : Nat → UInt32) (d n p0 c0 : Nat) : Nat → UInt32 := if r (16 + (4 * d + n)) = nI 1 then va_up f (40 * (3 * p0 + n) + c0) (FP.fdiv (f (40 * (3 * p0 + n) + c0)) FP.fconst2) else f
/-- a writing, ahead of the rubbing -/
def nWrR (r : Nat → Int32) (d n p0 c0 : Nat) (v : Int32) : Nat → Int32 := va_up (va_up r (126 + (40 * (3 * p0 + n) + c0)) v) (846 + (40 * (3 * p0 + n) + c0)) (mPl r d n p0 c0)
def nWrS (r : Nat → Int32) (d n p0 c0 : Nat) : UInt32 :=
  if ¬ r (126 + (40 * (3 * p0 + n) + c0)) = -1 ∧ (nI 10 < mPl r d n p0 c0 - r (846 + (40 * (3 * p0 + n) + c0)) ∨ mPl r d n p0 c0 - r (846 + (40 * (3 * p0 + n) + c0)) < -10) then FP.fmul (if r (16 + (4 * d + n)) = nI 1 then f05 else FP.fconst1) f75
  else (if r (16 + (4 * d + n)) = nI 1 then f05 else FP.fconst1)
def nWrF (r : Nat → Int32) (f : Nat → UInt32) (d n p0 c0 : Nat) : Nat → UInt32 := va_up f (40 * (3 * p0 + n) + c0) (nWrS r d n p0 c0)
/-- a reading: how many tries it cost; the row ahead of the rubbing -/
def nMany (q : Int32) (t : Nat) : Int32 := if q = -1 then nI (2 * t + 1) else q
def nRdA (r : Nat → Int32) (d p0 t : Nat) (q : Int32) : Nat → Int32 :=
  let r1 := va_up r (if q = -1 then 115 else 114) (r (if q = -1 then 115 else 114) + nI 1)
  let r2 := va_up r1 (116 + d) (r1 (116 + d) + nMany q t)
  va_up r2 (120 + p0) (r2 (120 + p0) + nMany q t)
def nClip (x : Int32) : Int32 := if nI 40 < x then nI 40 else if x < -40 then -40 else x
def nRdR (r : Nat → Int32) (d p0 t : Nat) (q : Int32) : Nat → Int32 := if 0 < q then va_up (nRdA r d p0 t q) (64 + 6 * d + p0) (nClip ((nRdA r d p0 t q) (64 + 6 * d + p0) + mTr (nD q))) else nRdA r d p0 t q
def nRdV (r : Nat → Int32) (n p0 c0 : Nat) (q : Int32) : Int32 := if q = -1 then -1 else r (126 + (40 * (3 * p0 + n) + c0))
def nMend (r : Nat → Int32) (d n : Nat) : Nat → Int32 := va_up (va_up (va_up r (16 + (4 * d + n)) (nI 0)) (0 + (4 * d + n)) (nI 0)) (32 + (4 * d + n)) (nI 0)
def nUnm (r : Nat → Int32) (d : Nat) : Nat → Int32 := va_up (va_up r (60 + d) (-1)) (52 + d) (nI 0)
/-- a surface's strengths halved, the first k cylinders -/
def nHlv (f : Nat → UInt32) (a k : Nat) : Nat → UInt32 := fun j => if a ≤ j ∧ j < a + k then FP.fdiv (f j) FP.fconst2 else f j
theorem nHlv_0 (f : Nat → UInt32) (a : Nat) : nHlv f a 0 = f := by
  funext j
  unfold nHlv
  rw [if_neg (by omega)]
theorem nHlv_s (f : Nat → UInt32) (a k : Nat) : va_up (nHlv f a k) (a + k) (FP.fdiv (nHlv f a k (a + k)) FP.fconst2) = nHlv f a (k + 1) := by
  funext j
  unfold nHlv va_up
  by_cases h : j = a + k
  · subst h
    rw [if_pos rfl, if_neg (by omega), if_pos (by omega)]
  · rw [if_neg h]
    dsimp only
    by_cases h2 : a ≤ j ∧ j < a + k
    · rw [if_pos h2, if_pos (by omega)]
    · rw [if_neg h2, if_neg (by omega)]
/-- a polishing: row, strengths and count behind k surfaces -/
def nPolR (r : Nat → Int32) (p0 : Nat) : Nat → Nat → Int32
  | 0 => r
  | k + 1 => va_up (nPolR r p0 k) (96 + 3 * p0 + k) (nI 0)
def nPolF (r : Nat → Int32) (f : Nat → UInt32) (p0 : Nat) : Nat → Nat → UInt32
  | 0 => f
  | k + 1 => if r (96 + 3 * p0 + k) = nI 1 then nHlv (nPolF r f p0 k) (40 * (3 * p0 + k)) 40 else nPolF r f p0 k
def nPolN (r : Nat → Int32) (p0 : Nat) : Nat → Int32
  | 0 => nI 0
  | k + 1 => nPolN r p0 k + r (96 + 3 * p0 + k)
theorem nPolR_at (r : Nat → Int32) (p0 : Nat) : ∀ k j, k ≤ j → nPolR r p0 k (96 + 3 * p0 + j) = r (96 + 3 * p0 + j) := by
  intro k
  induction k with
  | zero => intro j _; rfl
  | succ k ih =>
    intro j h
    show va_up (nPolR r p0 k) (96 + 3 * p0 + k) (nI 0) (96 + 3 * p0 + j) = _
    rw [va_up_ne _ _ (by omega)]
    exact ih j (by omega)
