/-! THE SYSTEM'S NUMBERS: distances and signals -/
def mAp (x y : Int32) : Int32 := if x < y then y - x else x - y
def fSg (d0 : Int32) (x : UInt32) : UInt32 := if d0 < nI 20 then FP.fmul (FP.fsub FP.fconst1 (FP.fdiv (FP.i2f d0) f20)) x else FP.fconst0
theorem mAp_mAb {x y : Int32} {A B : Int} (hx : bnd A x) (hy : bnd B y) (h : A + B < 2 ^ 31) : mAp x y = mAb (x - y) := by
  have e := i_sub hx hy h
  unfold mAp mAb
  by_cases q : x < y
  · rw [if_pos q, if_neg (fun q2 => by
      rw [Int32.lt_iff_toInt_lt] at q
      rw [Int32.le_iff_toInt_le, e, nI_toInt (by decide)] at q2
      omega)]
    grind
  · rw [if_neg q, if_pos (by
      rw [Int32.lt_iff_toInt_lt] at q
      rw [Int32.le_iff_toInt_le, e, nI_toInt (by decide)]
      omega)]
theorem mAp_gt {x y : Int32} {A B : Int} (hx : bnd A x) (hy : bnd B y) (h : A + B < 2 ^ 31) : (nI 10 < mAp y x) ↔ (nI 10 < x - y ∨ x - y < -10) := by
  have e := i_sub hx hy h
  have e2 := i_sub hy hx (by omega)
  have t10 : (nI 10).toInt = 10 := by decide
  have tm : (-10 : Int32).toInt = -10 := by decide
  have hr : (nI 10 < x - y ∨ x - y < -10) ↔ (10 < x.toInt - y.toInt ∨ x.toInt - y.toInt < -10) := by
    rw [Int32.lt_iff_toInt_lt, Int32.lt_iff_toInt_lt, e, t10, tm]
  rw [hr]
  unfold mAp
  by_cases q : y < x
  · rw [if_pos q, Int32.lt_iff_toInt_lt, e, t10]
    rw [Int32.lt_iff_toInt_lt] at q
    omega
  · rw [if_neg q, Int32.lt_iff_toInt_lt, e2, t10]
    rw [Int32.lt_iff_toInt_lt] at q
    omega
