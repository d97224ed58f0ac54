/-! THE SYSTEM'S STATE AS NUMBERS, as the reference keeps it: r the row, f the strengths; what always holds of them -/
def bnd (B : Int) (x : Int32) : Prop := -B ≤ x.toInt ∧ x.toInt ≤ B
def mInv (r : Nat → Int32) (f : Nat → UInt32) : Prop :=
  (∃ np : Nat, r 89 = nI np ∧ np ≤ 6 ∧ (∀ d, d < 4 → r (60 + d) = -1 ∨ ∃ p0, p0 < np ∧ r (60 + d) = nI p0) ∧
    (∀ k, np ≤ k → k < 6 → ∀ s0, s0 < 3 → r (96 + 3 * k + s0) = nI 0 ∧ ∀ c0, c0 < 40 → r (126 + (40 * (3 * k + s0) + c0)) = -1 ∧ r (846 + (40 * (3 * k + s0) + c0)) = nI 0 ∧ f (40 * (3 * k + s0) + c0) = FP.fconst0)) ∧
  (∃ t : Nat, r 88 = nI t ∧ t ≤ 8) ∧
  (∀ j, j < 16 → bnd 40 (r (0 + j))) ∧
  (∀ j, j < 16 → r (16 + j) = nI 0 ∨ r (16 + j) = nI 1) ∧
  (∀ d, d < 4 → bnd 20 (r (48 + d))) ∧
  (∀ d, d < 4 → ∃ c0 : Nat, c0 < 40 ∧ r (52 + d) = nI c0) ∧
  (∀ d, d < 4 → r (56 + d) = nI 0 ∨ r (56 + d) = nI 1) ∧
  (∀ j, j < 24 → bnd 40 (r (64 + j))) ∧
  (∀ k, k < 6 → bnd 60 (r (90 + k))) ∧
  (∀ j, j < 18 → r (96 + j) = nI 0 ∨ r (96 + j) = nI 1) ∧
  (∀ j, j < 720 → bnd 4200 (r (846 + j))) ∧
  (∀ j, j < 720 → f j ∈ fsL) ∧
  (∀ d e, d < 4 → e < 4 → r (60 + d) = r (60 + e) → r (60 + d) = -1 ∨ d = e)
theorem bnd_of {B : Int} {x : Int32} {z : Int} (h : x.toInt = z) (h1 : -B ≤ z) (h2 : z ≤ B) : bnd B x := ⟨by omega, by omega⟩
theorem i_add {x y : Int32} {A B : Int} (hx : bnd A x) (hy : bnd B y) (h : A + B < 2 ^ 31) : (x + y).toInt = x.toInt + y.toInt := by
  rw [Int32.toInt_add]
  obtain ⟨a1, a2⟩ := hx
  obtain ⟨b1, b2⟩ := hy
  simp only [Int.bmod_def]
  omega
theorem i_sub {x y : Int32} {A B : Int} (hx : bnd A x) (hy : bnd B y) (h : A + B < 2 ^ 31) : (x - y).toInt = x.toInt - y.toInt := by
  rw [Int32.toInt_sub]
  obtain ⟨a1, a2⟩ := hx
  obtain ⟨b1, b2⟩ := hy
  simp only [Int.bmod_def]
  omega
theorem i_neg {x : Int32} {A : Int} (hx : bnd A x) (h : A < 2 ^ 31) : (-x).toInt = -x.toInt := by
  rw [Int32.toInt_neg]
  obtain ⟨a1, a2⟩ := hx
  simp only [Int.bmod_def]
  omega
theorem bnd_add {x y : Int32} {A B C : Int} (hx : bnd A x) (hy : bnd B y) (h : A + B ≤ C) (hC : C < 2 ^ 31) : bnd C (x + y) := by
  have := i_add hx hy (by omega)
  obtain ⟨a1, a2⟩ := hx
  obtain ⟨b1, b2⟩ := hy
  exact ⟨by omega, by omega⟩
theorem bnd_sub {x y : Int32} {A B C : Int} (hx : bnd A x) (hy : bnd B y) (h : A + B ≤ C) (hC : C < 2 ^ 31) : bnd C (x - y) := by
  have := i_sub hx hy (by omega)
  obtain ⟨a1, a2⟩ := hx
  obtain ⟨b1, b2⟩ := hy
  exact ⟨by omega, by omega⟩
theorem bnd_nI {k : Nat} {B : Int} (h : (k : Int) ≤ B) (hk : k < 2 ^ 31) : bnd B (nI k) := by
  refine ⟨?_, ?_⟩ <;> rw [nI_toInt hk] <;> omega
theorem bnd_mono {B C : Int} {x : Int32} (h : bnd B x) (hBC : B ≤ C) : bnd C x := by
  obtain ⟨a1, a2⟩ := h
  exact ⟨by omega, by omega⟩
theorem mPl_bnd {r : Nat → Int32} {f : Nat → UInt32} {d n p0 c0 : Nat} (hI : mInv r f) (hd : d < 4) (hn : n < 4) (hp : p0 < 6) (hc : c0 < 40) : bnd 4080 (mPl r d n p0 c0) := by
  obtain ⟨-, -, h1, -, h3, -, -, h6, h7, -⟩ := hI
  unfold mPl
  have a1 := h1 (4 * d + n) (by omega)
  have a2 := h6 (6 * d + p0) (by omega)
  rw [show 64 + (6 * d + p0) = 64 + 6 * d + p0 by omega] at a2
  have a3 := h3 d hd
  have a4 := h7 p0 hp
  have a5 := h1 (4 * d + 3) (by omega)
  have a0 : bnd 3900 (nI (100 * c0)) := bnd_nI (by omega) (by omega)
  have a6 : bnd 100 (if r (56 + d) = 0 then r (48 + d) else r (90 + p0) - r (0 + (4 * d + 3))) := by
    split
    · exact bnd_mono a3 (by decide)
    · exact bnd_sub a4 a5 (by decide) (by decide)
  exact bnd_add (bnd_add (bnd_add a0 a1 (by decide) (C := 3940) (by decide)) a2 (C := 3980) (by decide) (by decide)) a6 (by decide) (by decide)
/-- the absolute difference, as a number -/
def mAb (x : Int32) : Int32 := if nI 0 ≤ x then x else -x
theorem mAb_nat {x : Int32} {B : Int} (h : bnd B x) (hB : B < 2 ^ 31) : ∃ k : Nat, (k : Int) ≤ B ∧ k < 2 ^ 31 ∧ mAb x = nI k ∧ (x.toInt = k ∨ x.toInt = -k) := by
  unfold mAb
  split
  · rename_i h0
    obtain ⟨k, hk, rfl⟩ := nK_of h0
    obtain ⟨a1, a2⟩ := h
    rw [nI_toInt hk] at a2
    exact ⟨k, a2, hk, rfl, Or.inl (nI_toInt hk)⟩
  · rename_i h0
    have e := i_neg h hB
    have hx : x.toInt < 0 := by
      have := Int32.not_le.mp h0
      rw [Int32.lt_iff_toInt_lt, nI_toInt (by decide)] at this
      exact this
    obtain ⟨a1, a2⟩ := h
    refine ⟨(-x.toInt).toNat, by omega, by omega, ?_, Or.inr (by omega)⟩
    apply Int32.toInt_inj.mp
    rw [e, nI_toInt (by omega)]
    omega
/-- the signal of a data head over a track, at an offset -/
def mSg (r : Nat → Int32) (f : Nat → UInt32) (d n p0 c0 : Nat) (o : Int32) : UInt32 :=
  if r (126 + (40 * (3 * p0 + n) + c0)) = -1 ∨ ¬ mAb (mPl r d n p0 c0 + o - r (846 + (40 * (3 * p0 + n) + c0))) < nI 20 then FP.fconst0
  else if r (16 + (4 * d + n)) = nI 1 then FP.fdiv (FP.fmul (FP.fsub FP.fconst1 (FP.fdiv (FP.i2f (mAb (mPl r d n p0 c0 + o - r (846 + (40 * (3 * p0 + n) + c0))))) f20)) (f (40 * (3 * p0 + n) + c0))) FP.fconst2
  else FP.fmul (FP.fsub FP.fconst1 (FP.fdiv (FP.i2f (mAb (mPl r d n p0 c0 + o - r (846 + (40 * (3 * p0 + n) + c0))))) f20)) (f (40 * (3 * p0 + n) + c0))
theorem mSg_fin {r : Nat → Int32} {f : Nat → UInt32} {d n p0 c0 : Nat} {o : Int32} (hI : mInv r f) (hd : d < 4) (hn : n < 3) (hp : p0 < 6) (hc : c0 < 40) (ho : bnd 40 o) (hs : mAb (mPl r d n p0 c0 + o - r (846 + (40 * (3 * p0 + n) + c0))) < nI 20) :
    ∃ k : Nat, k < 20 ∧ mAb (mPl r d n p0 c0 + o - r (846 + (40 * (3 * p0 + n) + c0))) = nI k := by
  have h1 := mPl_bnd hI hd (show n < 4 by omega) hp hc
  have h2 := hI.2.2.2.2.2.2.2.2.2.2.1 (40 * (3 * p0 + n) + c0) (by omega)
  obtain ⟨k, k1, k2, k3, -⟩ := mAb_nat (bnd_sub (bnd_add h1 ho (C := 4120) (by decide) (by decide)) h2 (C := 8320) (by decide) (by decide)) (by decide)
  rw [k3] at hs
  exact ⟨k, (nK_lt k2 (by decide)).mp hs, k3⟩
