/-! texts, further: what a whole text is -/
theorem tPart_le {b : Nat → Int32} {lb sp : Nat} {L : Int32} (h : sp ≤ lb) (hL : L = tSg b lb sp) : (tPart b lb L sp).1 ≤ lb := by
  have h1 := tP1_le h hL
  have hc : ∀ z : Int32, nI 1 ≤ (if z = nI 43 then nI 43 else nI 45) := by intro z; split <;> decide
  unfold tPart
  dsimp only
  split
  · exact tAdv_le (tAdv_le (tAdv_le h1 (by decide)) (by decide)) (by decide)
  · split
    · exact tNum_le (tAdv_le (tAdv_le h1 (by decide)) (by decide))
    · split
      · split
        · exact tNum_le (tAdv_le (tAdv_le (tAdv_le (tAdv_le h1 (by decide)) (by decide)) (by decide)) (by decide))
        · exact tAdv_le (tAdv_le (tAdv_le h1 (by decide)) (by decide)) (by decide)
      · split
        · exact tAdv_le (tAdv_le h1 (by decide)) (hc _)
        · exact tAdv_le h1 (by decide)
theorem tAdv_ge (w : Bool) (sp : Nat) : sp ≤ tAdv w sp := by
  unfold tAdv
  split <;> omega
theorem tNl_ge {b : Nat → Int32} {lb mo : Nat} : ∀ n sp v, sp ≤ (tNl b lb mo n sp v).1 := by
  intro n
  induction n with
  | zero => intro sp v; exact Nat.le_refl _
  | succ n ih =>
    intro sp v
    unfold tNl
    split
    · exact Nat.le_trans (Nat.le_succ _) (ih _ _)
    · exact Nat.le_refl _
theorem tNum_ge (b : Nat → Int32) (lb mo sp : Nat) (w : Bool) : sp ≤ (tNum b lb mo sp w).1 := by
  unfold tNum
  split
  · exact Nat.le_trans (tAdv_ge _ _) (tNl_ge _ _ _)
  · exact tAdv_ge _ _
theorem tPart_ge (b : Nat → Int32) (lb : Nat) (L : Int32) (sp : Nat) : sp ≤ (tPart b lb L sp).1 := by
  unfold tPart
  dsimp only
  have t := @Nat.le_trans
  split
  · exact t (t (t (tAdv_ge _ _) (tAdv_ge _ _)) (tAdv_ge _ _)) (tAdv_ge _ _)
  · split
    · exact t (t (t (tAdv_ge _ _) (tAdv_ge _ _)) (tAdv_ge _ _)) (tNum_ge _ _ _ _ _)
    · split
      · split
        · exact t (t (t (t (t (tAdv_ge _ _) (tAdv_ge _ _)) (tAdv_ge _ _)) (tAdv_ge _ _)) (tAdv_ge _ _)) (tNum_ge _ _ _ _ _)
        · exact t (t (t (tAdv_ge _ _) (tAdv_ge _ _)) (tAdv_ge _ _)) (tAdv_ge _ _)
      · split
        · exact t (t (tAdv_ge _ _) (tAdv_ge _ _)) (tAdv_ge _ _)
        · exact t (tAdv_ge _ _) (tAdv_ge _ _)
/-- an order from behind its first number on -/
def tPt (b : Nat → Int32) (lb : Nat) (L : Int32) (sp2 : Nat) (w2 : Bool) (a : Int32) : Nat × Bool × Int32 × Int32 × Int32 :=
  if L = nI 109 then
    (tAdv (tNd b lb (nI 48) (nI 53) (tAdv (tNd b lb (nI 61) (nI 61) sp2 w2) sp2) (tNd b lb (nI 61) (nI 61) sp2 w2)) (tAdv (tNd b lb (nI 61) (nI 61) sp2 w2) sp2), tNd b lb (nI 48) (nI 53) (tAdv (tNd b lb (nI 61) (nI 61) sp2 w2) sp2) (tNd b lb (nI 61) (nI 61) sp2 w2), a, tSg b lb (tAdv (tNd b lb (nI 61) (nI 61) sp2 w2) sp2) - nI 48, nI 0)
  else if L = nI 115 then
    ((tNum b lb 39 (tAdv (tNd b lb (nI 58) (nI 58) sp2 w2) sp2) (tNd b lb (nI 58) (nI 58) sp2 w2)).1, tNd b lb (nI 48) (nI 57) (tAdv (tNd b lb (nI 58) (nI 58) sp2 w2) sp2) (tNd b lb (nI 58) (nI 58) sp2 w2), a, (tNum b lb 39 (tAdv (tNd b lb (nI 58) (nI 58) sp2 w2) sp2) (tNd b lb (nI 58) (nI 58) sp2 w2)).2, nI 0)
  else if L = nI 119 ∨ L = nI 114 ∨ L = nI 102 then
    let w3 := tNd b lb (nI 46) (nI 46) sp2 w2
    let sp3 := tAdv w3 sp2
    let w4 := tNd b lb (nI 48) (if L = nI 102 then nI 51 else nI 50) sp3 w3
    let sp4 := tAdv w4 sp3
    if L = nI 119 then
      let w5 := tNd b lb (nI 61) (nI 61) sp4 w4
      let sp5 := tAdv w5 sp4
      ((tNum b lb 999 sp5 w5).1, tNd b lb (nI 48) (nI 57) sp5 w5, a, tSg b lb sp3 - nI 48, (tNum b lb 999 sp5 w5).2)
    else (sp4, w4, a, tSg b lb sp3 - nI 48, nI 0)
  else if L = nI 118 then
    let ch := if tSg b lb sp2 = nI 43 then nI 43 else nI 45
    let w3 := tNd b lb ch ch sp2 w2
    (tAdv w3 sp2, w3, a, if tSg b lb sp2 = nI 43 then nI 1 else nI 0, nI 0)
  else (sp2, w2, a, nI 0, nI 0)
theorem tPart_eq (b : Nat → Int32) (lb : Nat) (L : Int32) (sp : Nat) : tPart b lb L sp = tPt b lb L (tAdv (tNd b lb (nI 48) (if L = nI 99 then nI 53 else nI 51) (tAdv (tP1 L) sp) (tP1 L)) (tAdv (tP1 L) sp)) (tNd b lb (nI 48) (if L = nI 99 then nI 53 else nI 51) (tAdv (tP1 L) sp) (tP1 L)) (tSg b lb (tAdv (tP1 L) sp) - nI 48) := rfl
/-- orders behind semicolons, while all is well -/
def tTl (b : Nat → Int32) (lb : Nat) : Nat → Nat → Bool → Nat × Bool
  | 0, sp, w => (sp, w)
  | n + 1, sp, w => if w = true ∧ sp < lb then (if tNd b lb (nI 59) (nI 59) sp w = true then tTl b lb n (tPart b lb (tSg b lb (sp + 1)) (sp + 1)).1 (tPart b lb (tSg b lb (sp + 1)) (sp + 1)).2.1 else (sp, false)) else (sp, w)
/-- the whole text: where the reading ends, whether it is well -/
def tTx (b : Nat → Int32) (lb : Nat) : Nat × Bool := tTl b lb (lb + 1) (tPart b lb (tSg b lb 0) 0).1 (tPart b lb (tSg b lb 0) 0).2.1
