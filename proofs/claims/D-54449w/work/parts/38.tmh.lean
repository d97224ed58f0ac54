/-! TEXTS: what the reference reads, as functions of the buffer b of lb signs and the spot -/
def wI (w : Bool) : Int32 := if w then nI 1 else nI 0
theorem wI_0 {w : Bool} (h : wI w = 0) : w = false := by
  cases w
  · rfl
  · exact absurd h (by decide)
theorem wI_1 {w : Bool} (h : ¬ wI w = 0) : w = true := by
  cases w
  · exact absurd rfl h
  · rfl
theorem nZ_wI (w : Bool) : narrow .boolean (.int (wI w)) = .int (wI w) := by cases w <;> rfl
theorem fZ_wI (w : Bool) : fits .boolean (.int (wI w)) = true := by cases w <;> rfl
def tSg (b : Nat → Int32) (lb sp : Nat) : Int32 := if sp < lb then b sp else nI 0
def tNd (b : Nat → Int32) (lb : Nat) (lo hi : Int32) (sp : Nat) (w : Bool) : Bool := w && decide (lo ≤ tSg b lb sp ∧ tSg b lb sp ≤ hi)
def tAdv (w : Bool) (sp : Nat) : Nat := if w then sp + 1 else sp
theorem tNd_t {b : Nat → Int32} {lb sp : Nat} {lo hi : Int32} {w : Bool} (hw : w = true) (h : lo ≤ tSg b lb sp ∧ tSg b lb sp ≤ hi) : tNd b lb lo hi sp w = true := by
  unfold tNd
  rw [hw, decide_eq_true h]
  rfl
theorem tNd_f1 {b : Nat → Int32} {lb sp : Nat} {lo hi : Int32} {w : Bool} (hw : w = false) : tNd b lb lo hi sp w = false := by
  unfold tNd
  rw [hw]
  rfl
theorem tNd_f2 {b : Nat → Int32} {lb sp : Nat} {lo hi : Int32} {w : Bool} (h : ¬ (lo ≤ tSg b lb sp ∧ tSg b lb sp ≤ hi)) : tNd b lb lo hi sp w = false := by
  unfold tNd
  rw [decide_eq_false h, Bool.and_false]
theorem tNd_in {b : Nat → Int32} {lb sp : Nat} {lo hi : Int32} {w : Bool} (h : tNd b lb lo hi sp w = true) : w = true ∧ lo ≤ tSg b lb sp ∧ tSg b lb sp ≤ hi := by
  unfold tNd at h
  rw [Bool.and_eq_true, decide_eq_true_eq] at h
  exact h
theorem tSg_lt {b : Nat → Int32} {lb sp : Nat} {lo : Int32} (h : lo ≤ tSg b lb sp) (hlo : nI 1 ≤ lo) : sp < lb := by
  rcases Nat.lt_or_ge sp lb with q | q
  · exact q
  · unfold tSg at h
    rw [if_neg (by omega)] at h
    exact absurd (Int32.le_trans hlo h) (by decide)
theorem tAdv_le {b : Nat → Int32} {lb sp : Nat} {lo hi : Int32} {w : Bool} (h : sp ≤ lb) (hlo : nI 1 ≤ lo) : tAdv (tNd b lb lo hi sp w) sp ≤ lb := by
  unfold tAdv
  split
  · rename_i q
    have := tSg_lt (tNd_in q).2.1 hlo
    omega
  · exact h
/-- a number's further digits -/
def tNl (b : Nat → Int32) (lb mo : Nat) : Nat → Nat → Int32 → Nat × Int32
  | 0, sp, v => (sp, v)
  | n + 1, sp, v => if (nI 48 ≤ tSg b lb sp ∧ tSg b lb sp ≤ nI 57) ∧ ¬ nI mo < nI 10 * v + tSg b lb sp - nI 48 then tNl b lb mo n (sp + 1) (nI 10 * v + tSg b lb sp - nI 48) else (sp, v)
theorem tNl_le {b : Nat → Int32} {lb mo : Nat} : ∀ n sp v, sp + n ≤ lb → (tNl b lb mo n sp v).1 ≤ lb := by
  intro n
  induction n with
  | zero => intro sp v h; exact h
  | succ n ih =>
    intro sp v h
    unfold tNl
    split
    · exact ih _ _ (by omega)
    · show sp ≤ lb
      omega
def tNum (b : Nat → Int32) (lb mo sp : Nat) (w : Bool) : Nat × Int32 :=
  if tNd b lb (nI 48) (nI 57) sp w = true ∧ 0 < tSg b lb sp - nI 48 then tNl b lb mo (lb - tAdv (tNd b lb (nI 48) (nI 57) sp w) sp) (tAdv (tNd b lb (nI 48) (nI 57) sp w) sp) (tSg b lb sp - nI 48)
  else (tAdv (tNd b lb (nI 48) (nI 57) sp w) sp, tSg b lb sp - nI 48)
theorem tNum_le {b : Nat → Int32} {lb mo sp : Nat} {w : Bool} (h : sp ≤ lb) : (tNum b lb mo sp w).1 ≤ lb := by
  have := tAdv_le (b := b) (lo := nI 48) (hi := nI 57) (w := w) h (by decide)
  unfold tNum
  split
  · exact tNl_le _ _ _ (by omega)
  · exact this
/-- a letter that begins an order -/
def tP1 (L : Int32) : Bool := decide (L = nI 109 ∨ L = nI 117 ∨ L = nI 115 ∨ L = nI 119 ∨ L = nI 114 ∨ L = nI 118 ∨ L = nI 99 ∨ L = nI 102)
/-- an order: the spot behind it, whether it is well, its three numbers -/
def tPart (b : Nat → Int32) (lb : Nat) (L : Int32) (sp : Nat) : Nat × Bool × Int32 × Int32 × Int32 :=
  let w1 := tP1 L
  let sp1 := tAdv w1 sp
  let w2 := tNd b lb (nI 48) (if L = nI 99 then nI 53 else nI 51) sp1 w1
  let sp2 := tAdv w2 sp1
  let a := tSg b lb sp1 - nI 48
  if L = nI 109 then
    let w3 := tNd b lb (nI 61) (nI 61) sp2 w2
    let sp3 := tAdv w3 sp2
    let w4 := tNd b lb (nI 48) (nI 53) sp3 w3
    (tAdv w4 sp3, w4, a, tSg b lb sp3 - nI 48, nI 0)
  else if L = nI 115 then
    let w3 := tNd b lb (nI 58) (nI 58) sp2 w2
    let sp3 := tAdv w3 sp2
    ((tNum b lb 39 sp3 w3).1, tNd b lb (nI 48) (nI 57) sp3 w3, a, (tNum b lb 39 sp3 w3).2, nI 0)
  else if L = nI 119 ∨ L = nI 114 ∨ L = nI 102 then
    let w3 := tNd b lb (nI 46) (nI 46) sp2 w2
    let sp3 := tAdv w3 sp2
    let w4 := tNd b lb (nI 48) (if L = nI 102 then nI 51 else nI 50) sp3 w3
    let sp4 := tAdv w4 sp3
    if L = nI 119 then
      let w5 := tNd b lb (nI 61) (nI 61) sp4 w4
      let sp5 := tAdv w5 sp4
      ((tNum b lb 999 sp5 w5).1, tNd b lb (nI 48) (nI 57) sp5 w5, a, tSg b lb sp3 - nI 48, (tNum b lb 999 sp5 w5).2)
    else (sp4, w4, a, tSg b lb sp3 - nI 48, nI 0)
  else if L = nI 118 then
    let ch := if tSg b lb sp2 = nI 43 then nI 43 else nI 45
    let w3 := tNd b lb ch ch sp2 w2
    (tAdv w3 sp2, w3, a, if tSg b lb sp2 = nI 43 then nI 1 else nI 0, nI 0)
  else (sp2, w2, a, nI 0, nI 0)
/-- the fields behind an order -/
def tPg (g g' : Nat → Int32) (P : Nat × Bool × Int32 × Int32 × Int32) (L : Int32) : Prop := (∀ k, k < 11 → g' k = g k) ∧ g' 11 = nI P.1 ∧ g' 12 = wI P.2.1 ∧ g' 13 = L ∧ g' 14 = P.2.2.1 ∧ g' 15 = P.2.2.2.1 ∧ g' 16 = P.2.2.2.2
theorem tP1_le {b : Nat → Int32} {lb sp : Nat} {L : Int32} (h : sp ≤ lb) (hL : L = tSg b lb sp) : tAdv (tP1 L) sp ≤ lb := by
  unfold tAdv
  split
  · rename_i q
    unfold tP1 at q
    rw [decide_eq_true_eq] at q
    have : nI 1 ≤ L := by rcases q with q | q | q | q | q | q | q | q <;> rw [q] <;> decide
    rw [hL] at this
    have := tSg_lt this (by decide)
    omega
  · exact h
