/-! RETRIES BY THE GAP: what the loops reckon is what trying finds -/
theorem gp_half : (List.range 20).all (fun d => fsL.all (fun x => decide (Op.cmpValue (FP.fcmp (FP.fdiv (FP.fmul (fPt d) x) FP.fconst2) f05) CmpOp.l < 0) == decide (Op.cmpValue (FP.fcmp (FP.fmul (fPt d) (FP.fdiv x FP.fconst2)) f05) CmpOp.l < 0))) = true := by decide +kernel
theorem gp_mono : (List.range 19).all (fun d => fsL.all (fun x => decide (Op.cmpValue (FP.fcmp (FP.fmul (fPt (d + 1)) x) f05) CmpOp.l < 0) || !decide (Op.cmpValue (FP.fcmp (FP.fmul (fPt d) x) f05) CmpOp.l < 0))) = true := by decide +kernel
theorem gp_zero : decide (Op.cmpValue (FP.fcmp FP.fconst0 f05) CmpOp.l < 0) = true := by decide +kernel
theorem gp_0 : ¬ mOk FP.fconst0 := fun h => h (of_decide_eq_true gp_zero)
theorem fSg_lt {d : Nat} (h : d < 20) (x : UInt32) : fSg (nI d) x = FP.fmul (fPt d) x := by
  unfold fSg fPt
  rw [if_pos ((nK_lt (by omega) (by decide)).mpr h)]
theorem fSg_ge {d : Nat} (h : 20 ≤ d) (h2 : d < 2 ^ 31) (x : UInt32) : fSg (nI d) x = FP.fconst0 := by
  unfold fSg
  rw [if_neg (fun q => by have := (nK_lt h2 (by decide)).mp q; omega)]
theorem gp_half' {d : Nat} {x : UInt32} (h : d < 20) (hx : x ∈ fsL) : mOk (FP.fdiv (fSg (nI d) x) FP.fconst2) ↔ mOk (fSg (nI d) (FP.fdiv x FP.fconst2)) := by
  have := List.all_eq_true.mp (List.all_eq_true.mp gp_half d (List.mem_range.mpr h)) x hx
  have h1 := beq_iff_eq.mp this
  rw [fSg_lt h, fSg_lt h]
  unfold mOk
  exact not_congr (decide_eq_decide.mp h1)
theorem gp_step {d : Nat} {x : UInt32} (h : d + 1 < 20) (hx : x ∈ fsL) (ho : mOk (fSg (nI (d + 1)) x)) : mOk (fSg (nI d) x) := by
  have := List.all_eq_true.mp (List.all_eq_true.mp gp_mono d (List.mem_range.mpr (by omega))) x hx
  rw [fSg_lt h] at ho
  rw [fSg_lt (by omega)]
  intro q
  rw [Bool.or_eq_true] at this
  rcases this with z | z
  · exact ho (of_decide_eq_true z)
  · rw [Bool.not_eq_true', decide_eq_false_iff_not] at z
    exact z q
/-- how many differences from 0 on still read -/
noncomputable def gpW (y : UInt32) : Nat → Nat → Nat
  | 0, k => k
  | n + 1, k => @ite _ (mOk (fSg (nI k) y)) (Classical.propDecidable _) (gpW y n (k + 1)) k
theorem gpW_t {y : UInt32} {n k : Nat} (h : mOk (fSg (nI k) y)) : gpW y (n + 1) k = gpW y n (k + 1) := by
  conv => lhs; unfold gpW
  exact if_pos h
theorem gpW_f {y : UInt32} {n k : Nat} (h : ¬ mOk (fSg (nI k) y)) : gpW y (n + 1) k = k := by
  unfold gpW
  exact if_neg h
theorem gpW_all {y : UInt32} : ∀ n k, (∀ j, j < k → mOk (fSg (nI j) y)) → k ≤ gpW y n k ∧ gpW y n k ≤ k + n ∧ (∀ j, j < gpW y n k → mOk (fSg (nI j) y)) ∧ (gpW y n k < k + n → ¬ mOk (fSg (nI (gpW y n k)) y)) := by
  intro n
  induction n with
  | zero => intro k h; exact ⟨Nat.le_refl _, Nat.le_refl _, h, fun q => absurd q (Nat.lt_irrefl _)⟩
  | succ n ih =>
    intro k h
    by_cases q : mOk (fSg (nI k) y)
    · rw [gpW_t q]
      obtain ⟨a, b, c, d⟩ := ih (k + 1) (fun j hj => by
        rcases Nat.lt_or_ge j k with z | z
        · exact h j z
        · rw [show j = k by omega]; exact q)
      exact ⟨by omega, by omega, c, fun z => d (by omega)⟩
    · rw [gpW_f q]
      exact ⟨Nat.le_refl _, by omega, h, fun _ => q⟩
theorem gpW_iff {y : UInt32} (hy : y ∈ fsL) {d : Nat} (hd : d < 2 ^ 31) : mOk (fSg (nI d) y) ↔ d < gpW y 20 0 := by
  obtain ⟨-, hb, hc, hn⟩ := gpW_all (y := y) 20 0 (fun j h => absurd h (Nat.not_lt_zero _))
  constructor
  · intro h
    rcases Nat.lt_or_ge d 20 with h20 | h20
    · refine Classical.byContradiction fun q => ?_
      have hw : gpW y 20 0 < 0 + 20 := by omega
      have down : ∀ i, ∀ e, e + i < 20 → mOk (fSg (nI (e + i)) y) → mOk (fSg (nI e) y) := by
        intro i
        induction i with
        | zero => intro e _ h; exact h
        | succ i ih => intro e he h; exact ih e (by omega) (gp_step (by omega) hy h)
      exact hn hw (down (d - gpW y 20 0) _ (by omega) (by rw [show gpW y 20 0 + (d - gpW y 20 0) = d by omega]; exact h))
    · rw [fSg_ge h20 hd] at h
      exact absurd h gp_0
  · exact hc d
theorem mFst_at {P : Nat → Prop} {n j : Nat} (h : j < n) (hn : n < 2 ^ 30) (hj : P j) (hi : ∀ i, i < j → ¬ P i) : mFst P n 0 = nI j := by
  rcases mFst_or (P := P) n 0 with q | ⟨k, -, h2, h3, h4, h5⟩
  · exact absurd hj (mFst_none n 0 q (by omega) j (Nat.zero_le _) (by omega))
  · rw [h4]
    rcases Nat.lt_trichotomy j k with c | c | c
    · exact absurd hj (h5 j (Nat.zero_le _) c)
    · rw [c]
    · exact absurd h3 (hi k c)
theorem mFst_no {P : Nat → Prop} {n : Nat} (hi : ∀ i, i < n → ¬ P i) : mFst P n 0 = -1 := by
  rcases mFst_or (P := P) n 0 with q | ⟨k, -, h2, h3, h4, h5⟩
  · exact q
  · exact absurd h3 (hi k (by omega))
theorem mTr_ev : (List.range 9).all (fun i => decide ((mTr (2 * i)).toInt = -(5 * (i : Int))) && (i == 0 || decide ((mTr (2 * i - 1)).toInt = 5 * (i : Int)))) = true := by decide +kernel
theorem mTr_e {i : Nat} (h : i < 9) : (mTr (2 * i)).toInt = -(5 * (i : Int)) := by
  have := List.all_eq_true.mp mTr_ev i (List.mem_range.mpr h)
  rw [Bool.and_eq_true] at this
  exact of_decide_eq_true this.1
theorem mTr_o {i : Nat} (h : i < 9) (h0 : 0 < i) : (mTr (2 * i - 1)).toInt = 5 * (i : Int) := by
  have := List.all_eq_true.mp mTr_ev i (List.mem_range.mpr h)
  rw [Bool.and_eq_true, Bool.or_eq_true] at this
  rcases this.2 with z | z
  · have := beq_iff_eq.mp z; omega
  · exact of_decide_eq_true z
theorem nK_subt {a b : Nat} (h : a ≤ b) : nI b - nI a = nI (b - a) := by
  have e : nI b = nI (b - a) + nI a := by rw [nK_add, Nat.sub_add_cancel h]
  rw [e, Int32.add_sub_cancel]
/-- a distance as a number -/
def gpD (a b : Nat) : Nat := (a - b) + (b - a)
section GP0
variable {r : Nat → Int32} {f : Nat → UInt32} {d h k q0 t : Nat}
/-- the strength, weakened if the head is struck -/
def gpY (r : Nat → Int32) (f : Nat → UInt32) (d h k q0 : Nat) : UInt32 := if r (16 + (4 * d + h)) = 0 then f (40 * (3 * k + h) + q0) else FP.fdiv (f (40 * (3 * k + h) + q0)) FP.fconst2
theorem gpY_fs (hI : mInv r f) (h2 : h < 3) (h3 : k < 6) (h4 : q0 < 40) : gpY r f d h k q0 ∈ fsL := by
  unfold gpY
  split
  · exact sg_S hI h2 h3 h4
  · exact fs_half' (sg_S hI h2 h3 h4)
theorem gp_ok (hI : mInv r f) (h1 : d < 4) (h2 : h < 3) (h3 : k < 6) (h4 : q0 < 40) (hv : ¬ r (126 + (40 * (3 * k + h) + q0)) = -1) {o : Int32} (ho : bnd 40 o) : mOk (mSg r f d h k q0 o) ↔ ((mPl r d h k q0).toInt + o.toInt - (r (846 + (40 * (3 * k + h) + q0))).toInt).natAbs < gpW (gpY r f d h k q0) 20 0 := by
  have hP := mPl_bnd hI h1 (show h < 4 by omega) h3 h4
  have hpos := hI.2.2.2.2.2.2.2.2.2.2.1 (40 * (3 * k + h) + q0) (by omega)
  have hPo := bnd_add hP ho (C := 4120) (by decide) (by decide)
  obtain ⟨e, e1, e2, e3, e4⟩ := mAb_nat (bnd_sub hPo hpos (C := 8320) (by decide) (by decide)) (by decide)
  rw [i_sub hPo hpos (by decide), i_add hP ho (by decide)] at e4
  have hD : ((mPl r d h k q0).toInt + o.toInt - (r (846 + (40 * (3 * k + h) + q0))).toInt).natAbs = e := by omega
  rw [hD, ← gpW_iff (gpY_fs hI h2 h3 h4) e2, ← sg_E hI h1 h2 h3 h4 ho]
  unfold sgX gpY
  rw [if_neg hv, sg_e hI h1 h2 h3 h4 ho, e3]
  split
  · exact Iff.rfl
  · rcases Nat.lt_or_ge e 20 with q | q
    · exact gp_half' q (sg_S hI h2 h3 h4)
    · rw [fSg_ge q e2, fSg_ge q e2, fs_half0]
theorem gp_none (hI : mInv r f) (h1 : d < 4) (h2 : h < 3) (h3 : k < 6) (h4 : q0 < 40) (hv : r (126 + (40 * (3 * k + h) + q0)) = -1) : mRt r f d h k q0 t = -1 := by
  refine mFst_no fun i hi => ?_
  unfold mSg
  rw [if_pos (Or.inl hv)]
  exact gp_0
/-- the gap, and its size -/
def gpG (r : Nat → Int32) (d h k q0 : Nat) : Int32 := r (846 + (40 * (3 * k + h) + q0)) - mPl r d h k q0
theorem gpG_int (hI : mInv r f) (h1 : d < 4) (h2 : h < 3) (h3 : k < 6) (h4 : q0 < 40) : (gpG r d h k q0).toInt = (r (846 + (40 * (3 * k + h) + q0))).toInt - (mPl r d h k q0).toInt ∧ bnd 8280 (gpG r d h k q0) :=
  ⟨i_sub (hI.2.2.2.2.2.2.2.2.2.2.1 (40 * (3 * k + h) + q0) (by omega)) (mPl_bnd hI h1 (show h < 4 by omega) h3 h4) (by decide), bnd_sub (hI.2.2.2.2.2.2.2.2.2.2.1 (40 * (3 * k + h) + q0) (by omega)) (mPl_bnd hI h1 (show h < 4 by omega) h3 h4) (by decide) (by decide)⟩
theorem gp_even (hI : mInv r f) (h1 : d < 4) (h2 : h < 3) (h3 : k < 6) (h4 : q0 < 40) (hv : ¬ r (126 + (40 * (3 * k + h) + q0)) = -1) {i : Nat} (hi : i < 9) : mOk (mSg r f d h k q0 (mTr (2 * i))) ↔ (-(5 * (i : Int)) - (gpG r d h k q0).toInt).natAbs < gpW (gpY r f d h k q0) 20 0 := by
  rw [gp_ok hI h1 h2 h3 h4 hv (mTr_bnd (by omega)), mTr_e hi, (gpG_int hI h1 h2 h3 h4).1]
  rw [show ∀ a b c : Int, a + b - c = b - (c - a) from fun a b c => by omega]
theorem gp_odd (hI : mInv r f) (h1 : d < 4) (h2 : h < 3) (h3 : k < 6) (h4 : q0 < 40) (hv : ¬ r (126 + (40 * (3 * k + h) + q0)) = -1) {i : Nat} (hi : i < 9) (h0 : 0 < i) : mOk (mSg r f d h k q0 (mTr (2 * i - 1))) ↔ (5 * (i : Int) - (gpG r d h k q0).toInt).natAbs < gpW (gpY r f d h k q0) 20 0 := by
  rw [gp_ok hI h1 h2 h3 h4 hv (mTr_bnd (by omega)), mTr_o hi h0, (gpG_int hI h1 h2 h3 h4).1]
  rw [show ∀ a b c : Int, a + b - c = b - (c - a) from fun a b c => by omega]
/-- the walk's answer when the step i is the first that reads -/
theorem gp_hit (hI : mInv r f) (ht : t ≤ 8) (h1 : d < 4) (h2 : h < 3) (h3 : k < 6) (h4 : q0 < 40) (hv : ¬ r (126 + (40 * (3 * k + h) + q0)) = -1) {i : Nat} (hi : i ≤ t) {z : Nat} (hz : (gpG r d h k q0).toInt.natAbs = z) (hn : ∀ j, j < i → ¬ gpD z (5 * j) < gpW (gpY r f d h k q0) 20 0) (hy : gpD z (5 * i) < gpW (gpY r f d h k q0) 20 0) :
    mRt r f d h k q0 t = if i = 0 then nI 0 else if gpG r d h k q0 ≤ 0 then nI (2 * i) else nI (2 * i - 1) := by
  unfold mRt
  unfold gpD at hn hy
  have h0 : 0 < i → gpW (gpY r f d h k q0) 20 0 ≤ z := fun q => by have := hn 0 q; omega
  have odd : ∀ j, ∃ a, j = 2 * a ∨ (0 < a ∧ j = 2 * a - 1) := fun j => ⟨(j + 1) / 2, by omega⟩
  by_cases hi0 : i = 0
  · rw [if_pos hi0]
    subst hi0
    refine mFst_at (by omega) (by omega) ?_ (fun j hj => absurd hj (Nat.not_lt_zero _))
    rw [show mTr 0 = mTr (2 * 0) from rfl, gp_even hI h1 h2 h3 h4 hv (by omega)]
    omega
  · rw [if_neg hi0]
    have hw := h0 (by omega)
    have hiff : gpG r d h k q0 ≤ 0 ↔ ¬ 0 < (gpG r d h k q0).toInt := by
      rw [Int32.le_iff_toInt_le, Int32.toInt_zero]
      omega
    by_cases hg : 0 < (gpG r d h k q0).toInt
    · rw [if_neg (fun q => hiff.mp q hg)]
      refine mFst_at (by omega) (by omega) ?_ (fun j hj => ?_)
      · rw [gp_odd hI h1 h2 h3 h4 hv (by omega) (by omega)]
        omega
      · obtain ⟨a, rfl | ⟨ha, rfl⟩⟩ := odd j
        · rw [gp_even hI h1 h2 h3 h4 hv (by omega)]
          omega
        · rw [gp_odd hI h1 h2 h3 h4 hv (by omega) ha]
          have := hn a (by omega)
          omega
    · rw [if_pos (hiff.mpr hg)]
      refine mFst_at (by omega) (by omega) ?_ (fun j hj => ?_)
      · rw [gp_even hI h1 h2 h3 h4 hv (by omega)]
        omega
      · obtain ⟨a, rfl | ⟨ha, rfl⟩⟩ := odd j
        · rw [gp_even hI h1 h2 h3 h4 hv (by omega)]
          have := hn a (by omega)
          omega
        · rw [gp_odd hI h1 h2 h3 h4 hv (by omega) ha]
          omega
theorem gp_miss (hI : mInv r f) (ht : t ≤ 8) (h1 : d < 4) (h2 : h < 3) (h3 : k < 6) (h4 : q0 < 40) (hv : ¬ r (126 + (40 * (3 * k + h) + q0)) = -1) {z : Nat} (hz : (gpG r d h k q0).toInt.natAbs = z) (hn : ∀ j, j < t + 1 → ¬ gpD z (5 * j) < gpW (gpY r f d h k q0) 20 0) : mRt r f d h k q0 t = -1 := by
  unfold gpD at hn
  have h0 : gpW (gpY r f d h k q0) 20 0 ≤ z := by have := hn 0 (by omega); omega
  refine mFst_no fun j hj => ?_
  obtain ⟨a, ha⟩ : ∃ a, j = 2 * a ∨ (0 < a ∧ j = 2 * a - 1) := ⟨(j + 1) / 2, by omega⟩
  rcases ha with rfl | ⟨ha, rfl⟩
  · rw [gp_even hI h1 h2 h3 h4 hv (by omega)]
    have := hn a (by omega)
    omega
  · rw [gp_odd hI h1 h2 h3 h4 hv (by omega) ha]
    have := hn a (by omega)
    omega
theorem mAp_nat {a b : Nat} (ha : a < 2 ^ 31) (hb : b < 2 ^ 31) : mAp (nI a) (nI b) = nI (gpD a b) := by
  unfold mAp gpD
  by_cases q : nI a < nI b
  · rw [if_pos q]
    have := (nK_lt ha hb).mp q
    rw [show (a - b) + (b - a) = b - a by omega]
    exact nK_subt (by omega)
  · rw [if_neg q]
    have : ¬ a < b := fun z => q ((nK_lt ha hb).mpr z)
    rw [show (a - b) + (b - a) = a - b by omega]
    exact nK_subt (by omega)
theorem gp_cmp {x : Int32} {w D : Nat} (hx : x + nI 1 = nI w) (hw : w ≤ 20) (hD : D < 2 ^ 31) : nI D ≤ x ↔ D < w := by
  have e : x = nI w - nI 1 := by rw [← hx, Int32.add_sub_cancel]
  have hi : x.toInt = (w : Int) - 1 := by
    rw [e, i_sub (A := 20) (B := 1) (bnd_nI (by omega) (by omega)) (bnd_nI (by omega) (by omega)) (by decide), nI_toInt (by omega), nI_toInt (by omega)]
    rfl
  rw [Int32.le_iff_toInt_le, hi, nI_toInt hD]
  omega
theorem gp_size (hI : mInv r f) (h1 : d < 4) (h2 : h < 3) (h3 : k < 6) (h4 : q0 < 40) : ∃ z, z ≤ 8280 ∧ (gpG r d h k q0).toInt.natAbs = z ∧ (0 ≤ gpG r d h k q0 → gpG r d h k q0 = nI z) ∧ (¬ 0 ≤ gpG r d h k q0 → -gpG r d h k q0 = nI z) := by
  rw [Int32.le_iff_toInt_le, Int32.toInt_zero]
  obtain ⟨-, hb⟩ := gpG_int hI h1 h2 h3 h4 (r := r) (d := d) (h := h) (k := k) (q0 := q0)
  have hn := i_neg hb (by decide)
  obtain ⟨b1, b2⟩ := hb
  refine ⟨_, by omega, rfl, fun q => ?_, fun q => ?_⟩
  · apply Int32.toInt_inj.mp
    rw [nI_toInt (by omega)]
    omega
  · apply Int32.toInt_inj.mp
    rw [nI_toInt (by omega), hn]
    omega
end GP0
