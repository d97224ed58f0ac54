/-! more numbers: written tracks, bits of floats -/
def mWn (r : Nat → Int32) (a : Nat) : Nat → Int32
  | 0 => nI 0
  | n + 1 => mWn r a n + (if r (126 + (a + n)) = -1 then nI 0 else nI 1)
theorem fe_tails : FP.Core.Fmt.tails FP.Core.b64 = 4503599627370496 := by decide
theorem fe_exps : FP.Core.Fmt.exps FP.Core.b64 = 2048 := by decide
theorem fe_qmin : FP.Core.Fmt.qmin FP.Core.b64 = -1074 := by decide
theorem fe_qmax : FP.Core.Fmt.qmax FP.Core.b64 = 971 := by decide
theorem fe_p : 2 ^ FP.Core.b64.p = 9007199254740992 := by decide
theorem fe_dec (s : Bool) (E T : Nat) (hE : E < 2047) (hT : T < 4503599627370496) : FP.Core.decode FP.Core.b64 (FP.Core.assemble FP.Core.b64 s E T) = if E = 0 then .fin s T (-1074) else .fin s (4503599627370496 + T) (-1074 + ((E : Int) - 1)) := by
  have hs : s.toNat ≤ 1 := by cases s <;> decide
  have h1 : FP.Core.fieldE FP.Core.b64 (FP.Core.assemble FP.Core.b64 s E T) = E := by
    unfold FP.Core.fieldE FP.Core.assemble
    rw [fe_tails, fe_exps]
    omega
  have h2 : FP.Core.fieldT FP.Core.b64 (FP.Core.assemble FP.Core.b64 s E T) = T := by
    unfold FP.Core.fieldT FP.Core.assemble
    rw [fe_tails, fe_exps]
    omega
  have h3 : FP.Core.fieldS FP.Core.b64 (FP.Core.assemble FP.Core.b64 s E T) = s := by
    unfold FP.Core.fieldS FP.Core.assemble
    rw [fe_tails, fe_exps]
    cases s
    · rw [show ((false.toNat * 2048 + E) * 4503599627370496 + T) / 4503599627370496 / 2048 % 2 = 0 by simp only [Bool.toNat_false]; omega]
      rfl
    · rw [show ((true.toNat * 2048 + E) * 4503599627370496 + T) / 4503599627370496 / 2048 % 2 = 1 by simp only [Bool.toNat_true]; omega]
      rfl
  unfold FP.Core.decode
  rw [h1, h2, h3, fe_exps, fe_tails, fe_qmin, if_neg (by omega)]
theorem fe_lt (s : Bool) (E T : Nat) (hE : E < 2048) (hT : T < 4503599627370496) : FP.Core.assemble FP.Core.b64 s E T < 2 ^ 64 ∧ FP.Core.assemble FP.Core.b64 s E T % 2 ^ 63 = E * 4503599627370496 + T := by
  have hs : s.toNat ≤ 1 := by cases s <;> decide
  unfold FP.Core.assemble
  rw [fe_tails, fe_exps]
  constructor <;> omega
theorem fe_nn {z : Nat} (h : z % 2 ^ 63 ≤ 0x7ff0000000000000) (hz : z < 2 ^ 64) : vf_n64 (UInt64.ofNat z) := by
  unfold vf_n64
  rw [UInt64.le_iff_toNat_le, UInt64.toNat_and, UInt64.toNat_ofNat_of_lt' hz]
  rw [show (0x7fffffffffffffff : UInt64).toNat = 2 ^ 63 - 1 by decide, Nat.and_two_pow_sub_one_eq_mod]
  exact h
theorem fe_enc (s : Bool) (A B : Nat) (e : Int) : vf_n64 (UInt64.ofNat (FP.Core.encode FP.Core.b64 (FP.Core.roundRatio FP.Core.b64 s A B e))) := by
  have key : ∀ (d : FP.Core.Datum), (∃ E T, FP.Core.encode FP.Core.b64 d = FP.Core.assemble FP.Core.b64 s E T ∧ ((E < 2047 ∧ T < 4503599627370496) ∨ (E = 2047 ∧ T = 0))) → vf_n64 (UInt64.ofNat (FP.Core.encode FP.Core.b64 d)) := by
    rintro d ⟨E, T, h1, h2⟩
    rw [h1]
    have hT : T < 4503599627370496 := by omega
    obtain ⟨a1, a2⟩ := fe_lt s E T (by omega) hT
    exact fe_nn (by rw [a2]; omega) a1
  have hfin : ∀ (c : Nat) (q : Int), c < 9007199254740992 → q ≤ 971 → ∃ E T, FP.Core.encode FP.Core.b64 (.fin s c q) = FP.Core.assemble FP.Core.b64 s E T ∧ ((E < 2047 ∧ T < 4503599627370496) ∨ (E = 2047 ∧ T = 0)) := by
    intro c q hc hq
    unfold FP.Core.encode
    rw [fe_tails, fe_qmin]
    dsimp only
    by_cases h : c < 4503599627370496
    · rw [if_pos h]
      exact ⟨0, c, rfl, Or.inl ⟨by decide, h⟩⟩
    · rw [if_neg h]
      exact ⟨_, _, rfl, Or.inl ⟨by omega, by omega⟩⟩
  have hinf : ∃ E T, FP.Core.encode FP.Core.b64 (.inf s) = FP.Core.assemble FP.Core.b64 s E T ∧ ((E < 2047 ∧ T < 4503599627370496) ∨ (E = 2047 ∧ T = 0)) := by
    unfold FP.Core.encode
    rw [fe_exps]
    exact ⟨2047, 0, rfl, Or.inr ⟨rfl, rfl⟩⟩
  have hbound : ∀ (c : Nat) (q : Int), c < 9007199254740992 → ∃ E T, FP.Core.encode FP.Core.b64 (FP.Core.bound FP.Core.b64 s c q) = FP.Core.assemble FP.Core.b64 s E T ∧ ((E < 2047 ∧ T < 4503599627370496) ∨ (E = 2047 ∧ T = 0)) := by
    intro c q hc
    unfold FP.Core.bound
    rw [fe_qmax]
    by_cases h : q ≤ 971
    · rw [if_pos h]; exact hfin c q hc h
    · rw [if_neg h]; exact hinf
  apply key
  unfold FP.Core.roundRatio
  by_cases hA : A = 0
  · rw [if_pos hA]
    exact hfin 0 _ (by decide) (by rw [fe_qmin]; decide)
  · rw [if_neg hA]
    unfold FP.Core.roundAt FP.Core.settle
    rw [fe_p]
    by_cases hc : FP.Core.nearest (FP.Core.unitsNum A e (FP.Core.quantum FP.Core.b64 A B e)) (FP.Core.unitsDen B e (FP.Core.quantum FP.Core.b64 A B e)) < 9007199254740992
    · rw [if_pos hc]; exact hbound _ _ hc
    · rw [if_neg hc]; exact hbound _ _ (by rw [fe_tails]; decide)
theorem fe_int (s : Bool) {n : Nat} (h0 : n ≠ 0) (h : n ≤ 2 ^ 31) : ∃ (k : Nat), k ≤ 31 ∧ 2 ^ k ≤ n ∧ n < 2 ^ (k + 1) ∧ FP.Core.roundRatio FP.Core.b64 s n 1 0 = .fin s (n * 2 ^ (52 - k)) ((k : Int) - 52) := by
  have k1 : 2 ^ n.log2 ≤ n := Nat.log2_self_le h0
  have k2 : n < 2 ^ (n.log2 + 1) := Nat.lt_log2_self
  have k3 : n.log2 ≤ 31 := by
    rcases Nat.lt_or_ge 31 n.log2 with q | q
    · have : 2 ^ 32 ≤ 2 ^ n.log2 := Nat.pow_le_pow_right (by decide) q
      omega
    · exact q
  refine ⟨n.log2, k3, k1, k2, ?_⟩
  have hl : FP.Core.leading n 1 = (n.log2 : Int) := by
    unfold FP.Core.leading
    simp only [show Nat.log2 1 = 0 by decide]
    rw [if_pos (by
      rw [show ((n.log2 : Int) - ((0 : Nat) : Int)).toNat = n.log2 by omega, show (-((n.log2 : Int) - ((0 : Nat) : Int))).toNat = 0 by omega]
      omega)]
    omega
  generalize hk : n.log2 = k at *
  have hq : FP.Core.quantum FP.Core.b64 n 1 0 = (k : Int) - 52 := by
    unfold FP.Core.quantum
    rw [hl, fe_qmin, show (FP.Core.b64.p : Int) = 53 by decide]
    omega
  have hN : n * 2 ^ (52 - k) < 9007199254740992 := by
    have : n * 2 ^ (52 - k) < 2 ^ (k + 1) * 2 ^ (52 - k) := (Nat.mul_lt_mul_right (Nat.two_pow_pos _)).mpr k2
    rw [← Nat.pow_add, show k + 1 + (52 - k) = 53 by omega] at this
    exact this
  unfold FP.Core.roundRatio
  rw [if_neg h0, hq]
  unfold FP.Core.roundAt FP.Core.unitsNum FP.Core.unitsDen
  rw [show (0 - ((k : Int) - 52)).toNat = 52 - k by omega, show ((k : Int) - 52 - 0).toNat = 0 by omega, Nat.pow_zero, Nat.mul_one]
  have hn : FP.Core.nearest (n * 2 ^ (52 - k)) 1 = n * 2 ^ (52 - k) := by
    unfold FP.Core.nearest
    rw [Nat.mod_one, if_pos (by decide), Nat.div_one]
  rw [hn]
  unfold FP.Core.settle FP.Core.bound
  rw [fe_p, if_pos hN, fe_qmax, if_pos (by omega)]
theorem fd_i2d (a : Int32) : ∃ (s : Bool) (c : Nat) (q : Int), FP.Core.decode FP.Core.b64 (FP.i2d a).toNat = .fin s c q ∧ (c = 0 → a = 0) := by
  have ha1 := a.toInt_lt
  have ha2 := a.le_toInt
  have e0 : (FP.i2d a).toNat = FP.Core.encode FP.Core.b64 (FP.Core.roundRatio FP.Core.b64 (decide (a.toInt < 0)) a.toInt.natAbs 1 0) % 2 ^ 64 := rfl
  by_cases h0 : a.toInt.natAbs = 0
  · refine ⟨decide (a.toInt < 0), 0, -1074, ?_, fun _ => Int32.toInt_inj.mp (by rw [show a.toInt = 0 by omega]; rfl)⟩
    rw [e0, h0]
    rw [show decide (a.toInt < 0) = false from decide_eq_false (by omega)]
    decide
  · obtain ⟨k, k1, k2, k3, e1⟩ := fe_int (decide (a.toInt < 0)) h0 (by omega)
    rw [e1] at e0
    have hlo : 4503599627370496 ≤ a.toInt.natAbs * 2 ^ (52 - k) := by
      have : 2 ^ k * 2 ^ (52 - k) ≤ a.toInt.natAbs * 2 ^ (52 - k) := Nat.mul_le_mul_right _ k2
      rw [← Nat.pow_add, show k + (52 - k) = 52 by omega] at this
      exact this
    have hhi : a.toInt.natAbs * 2 ^ (52 - k) < 9007199254740992 := by
      have : a.toInt.natAbs * 2 ^ (52 - k) < 2 ^ (k + 1) * 2 ^ (52 - k) := (Nat.mul_lt_mul_right (Nat.two_pow_pos _)).mpr k3
      rw [← Nat.pow_add, show k + 1 + (52 - k) = 53 by omega] at this
      exact this
    generalize a.toInt.natAbs * 2 ^ (52 - k) = N at e0 hlo hhi
    have e2 : FP.Core.encode FP.Core.b64 (.fin (decide (a.toInt < 0)) N ((k : Int) - 52)) = FP.Core.assemble FP.Core.b64 (decide (a.toInt < 0)) (k + 1023) (N - 4503599627370496) := by
      unfold FP.Core.encode
      rw [fe_tails, fe_qmin]
      dsimp only
      rw [if_neg (by omega), show ((k : Int) - 52 - -1074).toNat + 1 = k + 1023 by omega]
    obtain ⟨l1, l2⟩ := fe_lt (decide (a.toInt < 0)) (k + 1023) (N - 4503599627370496) (by omega) (by omega)
    rw [e2, Nat.mod_eq_of_lt l1] at e0
    refine ⟨decide (a.toInt < 0), 4503599627370496 + (N - 4503599627370496), -1074 + (((k + 1023 : Nat) : Int) - 1), ?_, fun h => absurd h (by omega)⟩
    rw [e0, fe_dec _ _ _ (by omega) (by omega), if_neg (by omega)]
theorem fd_ok {a b : Int32} (h : ¬ b = 0) : vf_n64 (FP.ddiv (FP.i2d a) (FP.i2d b)) := by
  obtain ⟨s, c, q, e1, -⟩ := fd_i2d a
  obtain ⟨s2, c2, q2, e2, h2⟩ := fd_i2d b
  show vf_n64 (UInt64.ofNat (FP.Core.encode FP.Core.b64 (FP.Core.quotient FP.Core.b64 (FP.Core.decode FP.Core.b64 (FP.i2d a).toNat) (FP.Core.decode FP.Core.b64 (FP.i2d b).toNat))))
  rw [e1, e2]
  unfold FP.Core.quotient
  dsimp only
  rw [if_neg (fun z => h (h2 z))]
  exact fe_enc _ _ _ _
/-- the bits that Java shows of a float -/
def mFb (v : UInt32) : Int32 := if Op.cmpValue (FP.fcmp v v) CmpOp.l = 0 then v.toInt32 else 2143289344
