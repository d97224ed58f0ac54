/-! more numbers: who can read a track, what a drive can read, means -/
noncomputable def mRb (r : Nat → Int32) (f : Nat → UInt32) (p0 n c0 t : Nat) : Nat → Int32
  | 0 => nI 0
  | k + 1 => mRb r f p0 n c0 t k ||| (if mRt r f k n p0 c0 t = -1 then nI 0 else nI 1 <<< (nI k &&& 31))
/-- the count behind k surfaces and c0 cylinders of the next -/
noncomputable def mRj (r : Nat → Int32) (f : Nat → UInt32) (d p0 t k : Nat) (a : Int32) : Nat → Int32
  | 0 => a
  | c0 + 1 => mRj r f d p0 t k a c0 + (if mRt r f d k p0 c0 t = -1 then nI 0 else nI 1)
noncomputable def mRh (r : Nat → Int32) (f : Nat → UInt32) (d p0 t : Nat) : Nat → Int32
  | 0 => nI 0
  | k + 1 => mRj r f d p0 t k (mRh r f d p0 t k) 40
noncomputable def mRi (r : Nat → Int32) (f : Nat → UInt32) (d p0 t k c0 : Nat) : Int32 := mRj r f d p0 t k (mRh r f d p0 t k) c0
theorem mRi_step (r : Nat → Int32) (f : Nat → UInt32) (d p0 t k c0 : Nat) : mRi r f d p0 t k (c0 + 1) = mRi r f d p0 t k c0 + (if mRt r f d k p0 c0 t = -1 then nI 0 else nI 1) := rfl
theorem mRi_next (r : Nat → Int32) (f : Nat → UInt32) (d p0 t k : Nat) : mRi r f d p0 t (k + 1) 0 = mRi r f d p0 t k 40 := rfl
def mMn (r : Nat → Int32) : UInt64 := if r 114 + r 115 = 0 then FP.dconst0 else FP.ddiv (FP.i2d (mSm r 116 4)) (FP.i2d (r 114 + r 115))
