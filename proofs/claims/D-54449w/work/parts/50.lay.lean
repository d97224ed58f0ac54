/-! A REGION OF THE MAP: parts named by numbers, each at its address; what else the map holds is kept -/
noncomputable def lay (L : Nat → Prop) (ad : Nat → Nat) (C : Nat → mE) (M0 : mM) : mM := fun q =>
  @dite (Option mE) (∃ i, L i ∧ ad i = q) (Classical.propDecidable _) (fun h => some (C (Classical.choose h))) (fun _ => M0 q)
def lInj (L : Nat → Prop) (ad : Nat → Nat) : Prop := ∀ i j, L i → L j → ad i = ad j → i = j
section LAY0
variable {L L' : Nat → Prop} {ad ad' : Nat → Nat} {C C' : Nat → mE} {M0 M1 : mM}
theorem lay_at (hd : lInj L ad) {i : Nat} (hi : L i) : lay L ad C M0 (ad i) = some (C i) := by
  unfold lay
  have h : ∃ j, L j ∧ ad j = ad i := ⟨i, hi, rfl⟩
  rw [dif_pos h]
  have q := Classical.choose_spec h
  rw [hd _ _ q.1 hi q.2]
theorem lay_out {q : Nat} (h : ∀ i, L i → ad i ≠ q) : lay L ad C M0 q = M0 q := by
  unfold lay
  rw [dif_neg (fun e => by obtain ⟨i, a, b⟩ := e; exact h i a b)]
theorem lay_dec (q : Nat) (L : Nat → Prop) (ad : Nat → Nat) : (∃ i, L i ∧ ad i = q) ∨ ∀ i, L i → ad i ≠ q := by
  rcases Classical.em (∃ i, L i ∧ ad i = q) with h | h
  · exact Or.inl h
  · exact Or.inr fun i a b => h ⟨i, a, b⟩
/-- one map by its values -/
theorem lay_eq (hd : lInj L ad) {M : mM} (h1 : ∀ i, L i → M (ad i) = some (C i)) (h2 : ∀ q, (∀ i, L i → ad i ≠ q) → M q = M0 q) : M = lay L ad C M0 := by
  funext q
  rcases lay_dec q L ad with ⟨i, hi, rfl⟩ | h
  · rw [lay_at hd hi, h1 i hi]
  · rw [lay_out h, h2 q h]
theorem lay_self (hd : lInj L ad) {M : mM} (h1 : ∀ i, L i → M (ad i) = some (C i)) : lay L ad C M = M := (lay_eq hd h1 (fun _ _ => rfl)).symm
theorem lay_congr (hd : lInj L ad) (h : ∀ i, L i → C i = C' i) : lay L ad C M0 = lay L ad C' M0 := lay_eq hd (fun i hi => by rw [lay_at hd hi, h i hi]) (fun q hq => lay_out hq)
theorem lay_up (hd : lInj L ad) {i : Nat} (hi : L i) {e : mE} (he : e = C' i) (ho : ∀ j, L j → j ≠ i → C j = C' j) : mup (lay L ad C M0) (ad i) e = lay L ad C' M0 := by
  refine lay_eq hd (fun j hj => ?_) (fun q hq => ?_)
  · by_cases e2 : j = i
    · rw [e2, mup_self, he]
    · rw [mup_ne (fun q => e2 (hd _ _ hj hi q)), lay_at hd hj, ho j hj e2]
  · rw [mup_ne (fun q2 => hq i hi q2.symm), lay_out hq]
/-- a part that lies new behind the others -/
theorem lay_new (hd : lInj L ad) {a : Nat} {i : Nat} (ha : lay L ad C M0 a = none) {e : mE} : lInj (fun j => L j ∨ j = i) (fun j => if j = i then a else ad j) ∨ L i := by
  rcases Classical.em (L i) with h | h
  · exact Or.inr h
  · refine Or.inl fun j k hj hk e2 => ?_
    dsimp only at e2
    have na : ∀ j, L j → ad j ≠ a := fun j hj q => by rw [← q, lay_at hd hj] at ha; cases ha
    by_cases h1 : j = i
    · by_cases h2 : k = i
      · rw [h1, h2]
      · rw [if_pos h1, if_neg h2] at e2
        exact absurd e2.symm (na k (hk.resolve_right h2))
    · by_cases h2 : k = i
      · rw [if_neg h1, if_pos h2] at e2
        exact absurd e2 (na j (hj.resolve_right h1))
      · rw [if_neg h1, if_neg h2] at e2
        exact hd _ _ (hj.resolve_right h1) (hk.resolve_right h2) e2
end LAY0
/-! THE SYSTEM'S STATE AS A REGION: n packs, the row r, the strengths f, dv k the drive that pack k is in -/
/-- a State's parts: 0 itself, 1 its drives' array, 2 its list, 3 the list's array, 4 and 5 its counts; 10 .. Drives, 20 .. their arrays of heads, 30 .. what they learned, 40 .. heads, 60 .. Packs, 70 .. their arrays of surfaces, 80 .. Surfaces, 100 .. 120 .. 140 .. their values, positions, strengths -/
def sL (n i : Nat) : Prop := (i < 6 ∧ (i = 3 → 0 < n)) ∨ (10 ≤ i ∧ i < 14) ∨ (20 ≤ i ∧ i < 24) ∨ (30 ≤ i ∧ i < 34) ∨ (40 ≤ i ∧ i < 56) ∨ (60 ≤ i ∧ i < 60 + n) ∨ (70 ≤ i ∧ i < 70 + n) ∨ (80 ≤ i ∧ i < 80 + 3 * n) ∨ (100 ≤ i ∧ i < 100 + 3 * n) ∨ (120 ≤ i ∧ i < 120 + 3 * n) ∨ (140 ≤ i ∧ i < 140 + 3 * n)
/-- a slice of a row as an array of n -/
def sSl (r : Nat → Int32) (a n : Nat) : Nat → Int32 := fun j => if j < n then r (a + j) else 0
def sSf (f : Nat → UInt32) (a n : Nat) : Nat → UInt32 := fun j => if j < n then f (a + j) else 0
def sSa (ad : Nat → Nat) (a n : Nat) : Nat → Option Nat := fun j => if j < n then some (ad (a + j)) else none
abbrev sF0 (ad : Nat → Nat) (r : Nat → Int32) : List Value := [.ref (ad 1), .ref (ad 2), .ref (ad 4), .ref (ad 5), .int (r 88), .int (r 114), .int (r 115)]
abbrev sF2 (G : mG) (ad : Nat → Nat) (n : Nat) : List Value := [.int (nI n), .ref (if n = 0 then G.2.2 else ad 3), .int (nI n)]
abbrev sFD (ad : Nat → Nat) (r : Nat → Int32) (d : Nat) : List Value := [.ref (ad (20 + d)), .ref (ad (40 + (4 * d + 3))), .ref (ad (30 + d)), .int (r (48 + d)), .int (r (52 + d)), .int (r (56 + d)), .int (r (60 + d))]
abbrev sFH (r : Nat → Int32) (k : Nat) : List Value := [.int (r (0 + k)), .int (r (16 + k)), .int (r (32 + k))]
abbrev sFP (ad : Nat → Nat) (r dv : Nat → Int32) (k : Nat) : List Value := [.int (r (90 + k)), .ref (ad (70 + k)), .int (dv k)]
abbrev sFS (ad : Nat → Nat) (r : Nat → Int32) (k : Nat) : List Value := [.ref (ad (100 + k)), .ref (ad (120 + k)), .ref (ad (140 + k)), .int (r (96 + k))]
def sC (G : mG) (ad : Nat → Nat) (n : Nat) (r : Nat → Int32) (f : Nat → UInt32) (dv : Nat → Int32) (i : Nat) : mE :=
  if i < 10 then (if i = 0 then eO 1 (sF0 ad r) else if i = 1 then eQ (G.2.1 6) 4 (sSa ad 10 4) else if i = 2 then eO 9 (sF2 G ad n) else if i = 3 then eQ (G.2.1 4) 10 (sSa ad 60 n) else if i = 4 then eI (G.2.1 0) 4 (sSl r 116 4) else eI (G.2.1 0) 6 (sSl r 120 6))
  else if i < 20 then eO 2 (sFD ad r (i - 10))
  else if i < 30 then eQ (G.2.1 5) 3 (sSa ad (40 + 4 * (i - 20)) 3)
  else if i < 40 then eI (G.2.1 0) 6 (sSl r (64 + 6 * (i - 30)) 6)
  else if i < 60 then eO (if (i - 40) % 4 = 3 then 3 else 4) (sFH r (i - 40))
  else if i < 70 then eO 6 (sFP ad r dv (i - 60))
  else if i < 80 then eQ (G.2.1 7) 3 (sSa ad (80 + 3 * (i - 70)) 3)
  else if i < 100 then eO 7 (sFS ad r (i - 80))
  else if i < 120 then eI (G.2.1 0) 40 (sSl r (126 + 40 * (i - 100)) 40)
  else if i < 140 then eI (G.2.1 0) 40 (sSl r (846 + 40 * (i - 120)) 40)
  else eF (G.2.1 1) 40 (sSf f (40 * (i - 140)) 40)
noncomputable def sM (G : mG) (ad : Nat → Nat) (n : Nat) (r : Nat → Int32) (f : Nat → UInt32) (dv : Nat → Int32) (M0 : mM) : mM := lay (sL n) ad (sC G ad n r f dv) M0
abbrev sAd (n : Nat) (ad : Nat → Nat) : Prop := lInj (sL n) ad
section SM0
variable {G : mG} {ad : Nat → Nat} {n : Nat} {r r' : Nat → Int32} {f f' : Nat → UInt32} {dv dv' : Nat → Int32} {M0 : mM}
theorem sM_0 (hd : sAd n ad) : sM G ad n r f dv M0 (ad 0) = some (eO 1 (sF0 ad r)) := (lay_at hd (show sL n 0 by unfold sL; omega)).trans rfl
theorem sM_1 (hd : sAd n ad) : sM G ad n r f dv M0 (ad 1) = some (eQ (G.2.1 6) 4 (sSa ad 10 4)) := (lay_at hd (show sL n 1 by unfold sL; omega)).trans rfl
theorem sM_2 (hd : sAd n ad) : sM G ad n r f dv M0 (ad 2) = some (eO 9 (sF2 G ad n)) := (lay_at hd (show sL n 2 by unfold sL; omega)).trans rfl
theorem sM_3 (hd : sAd n ad) (hn : 0 < n) : sM G ad n r f dv M0 (ad 3) = some (eQ (G.2.1 4) 10 (sSa ad 60 n)) := (lay_at hd (show sL n 3 by unfold sL; omega)).trans rfl
theorem sM_4 (hd : sAd n ad) : sM G ad n r f dv M0 (ad 4) = some (eI (G.2.1 0) 4 (sSl r 116 4)) := (lay_at hd (show sL n 4 by unfold sL; omega)).trans rfl
theorem sM_5 (hd : sAd n ad) : sM G ad n r f dv M0 (ad 5) = some (eI (G.2.1 0) 6 (sSl r 120 6)) := (lay_at hd (show sL n 5 by unfold sL; omega)).trans rfl
theorem sC_D {d : Nat} (h : d < 10) : sC G ad n r f dv (10 + d) = eO 2 (sFD ad r d) := by
  unfold sC
  rw [if_neg (by omega), if_pos (by omega), show 10 + d - 10 = d by omega]
theorem sC_A {d : Nat} (h : d < 10) : sC G ad n r f dv (20 + d) = eQ (G.2.1 5) 3 (sSa ad (40 + 4 * d) 3) := by
  unfold sC
  rw [if_neg (by omega), if_neg (by omega), if_pos (by omega), show 20 + d - 20 = d by omega]
theorem sC_L {d : Nat} (h : d < 10) : sC G ad n r f dv (30 + d) = eI (G.2.1 0) 6 (sSl r (64 + 6 * d) 6) := by
  unfold sC
  rw [if_neg (by omega), if_neg (by omega), if_neg (by omega), if_pos (by omega), show 30 + d - 30 = d by omega]
theorem sC_H {k : Nat} (h : k < 20) : sC G ad n r f dv (40 + k) = eO (if k % 4 = 3 then 3 else 4) (sFH r k) := by
  unfold sC
  rw [if_neg (by omega), if_neg (by omega), if_neg (by omega), if_neg (by omega), if_pos (by omega), show 40 + k - 40 = k by omega]
theorem sC_P {k : Nat} (h : k < 10) : sC G ad n r f dv (60 + k) = eO 6 (sFP ad r dv k) := by
  unfold sC
  rw [if_neg (by omega), if_neg (by omega), if_neg (by omega), if_neg (by omega), if_neg (by omega), if_pos (by omega), show 60 + k - 60 = k by omega]
theorem sC_U {k : Nat} (h : k < 10) : sC G ad n r f dv (70 + k) = eQ (G.2.1 7) 3 (sSa ad (80 + 3 * k) 3) := by
  unfold sC
  rw [if_neg (by omega), if_neg (by omega), if_neg (by omega), if_neg (by omega), if_neg (by omega), if_neg (by omega), if_pos (by omega), show 70 + k - 70 = k by omega]
theorem sC_S {k : Nat} (h : k < 20) : sC G ad n r f dv (80 + k) = eO 7 (sFS ad r k) := by
  unfold sC
  rw [if_neg (by omega), if_neg (by omega), if_neg (by omega), if_neg (by omega), if_neg (by omega), if_neg (by omega), if_neg (by omega), if_pos (by omega), show 80 + k - 80 = k by omega]
theorem sC_V {k : Nat} (h : k < 20) : sC G ad n r f dv (100 + k) = eI (G.2.1 0) 40 (sSl r (126 + 40 * k) 40) := by
  unfold sC
  rw [if_neg (by omega), if_neg (by omega), if_neg (by omega), if_neg (by omega), if_neg (by omega), if_neg (by omega), if_neg (by omega), if_neg (by omega), if_pos (by omega), show 100 + k - 100 = k by omega]
theorem sC_O {k : Nat} (h : k < 20) : sC G ad n r f dv (120 + k) = eI (G.2.1 0) 40 (sSl r (846 + 40 * k) 40) := by
  unfold sC
  rw [if_neg (by omega), if_neg (by omega), if_neg (by omega), if_neg (by omega), if_neg (by omega), if_neg (by omega), if_neg (by omega), if_neg (by omega), if_neg (by omega), if_pos (by omega), show 120 + k - 120 = k by omega]
theorem sC_F {k : Nat} : sC G ad n r f dv (140 + k) = eF (G.2.1 1) 40 (sSf f (40 * k) 40) := by
  unfold sC
  rw [if_neg (by omega), if_neg (by omega), if_neg (by omega), if_neg (by omega), if_neg (by omega), if_neg (by omega), if_neg (by omega), if_neg (by omega), if_neg (by omega), if_neg (by omega), show 140 + k - 140 = k by omega]
theorem sM_D (hd : sAd n ad) {d : Nat} (h : d < 4) : sM G ad n r f dv M0 (ad (10 + d)) = some (eO 2 (sFD ad r d)) := (lay_at hd (show sL n (10 + d) by unfold sL; omega)).trans (by rw [sC_D (by omega)])
theorem sM_A (hd : sAd n ad) {d : Nat} (h : d < 4) : sM G ad n r f dv M0 (ad (20 + d)) = some (eQ (G.2.1 5) 3 (sSa ad (40 + 4 * d) 3)) := (lay_at hd (show sL n (20 + d) by unfold sL; omega)).trans (by rw [sC_A (by omega)])
theorem sM_L (hd : sAd n ad) {d : Nat} (h : d < 4) : sM G ad n r f dv M0 (ad (30 + d)) = some (eI (G.2.1 0) 6 (sSl r (64 + 6 * d) 6)) := (lay_at hd (show sL n (30 + d) by unfold sL; omega)).trans (by rw [sC_L (by omega)])
theorem sM_H (hd : sAd n ad) {k : Nat} (h : k < 16) : sM G ad n r f dv M0 (ad (40 + k)) = some (eO (if k % 4 = 3 then 3 else 4) (sFH r k)) := (lay_at hd (show sL n (40 + k) by unfold sL; omega)).trans (by rw [sC_H (by omega)])
theorem sM_HD (hd : sAd n ad) {d h : Nat} (h1 : d < 4) (h2 : h < 3) : sM G ad n r f dv M0 (ad (40 + (4 * d + h))) = some (eO 4 (sFH r (4 * d + h))) := (sM_H hd (by omega)).trans (by rw [if_neg (by omega)])
theorem sM_HS (hd : sAd n ad) {d : Nat} (h1 : d < 4) : sM G ad n r f dv M0 (ad (40 + (4 * d + 3))) = some (eO 3 (sFH r (4 * d + 3))) := (sM_H hd (by omega)).trans (by rw [if_pos (by omega)])
theorem sM_P (hd : sAd n ad) (hn : n ≤ 6) {k : Nat} (h : k < n) : sM G ad n r f dv M0 (ad (60 + k)) = some (eO 6 (sFP ad r dv k)) := (lay_at hd (show sL n (60 + k) by unfold sL; omega)).trans (by rw [sC_P (by omega)])
theorem sM_U (hd : sAd n ad) (hn : n ≤ 6) {k : Nat} (h : k < n) : sM G ad n r f dv M0 (ad (70 + k)) = some (eQ (G.2.1 7) 3 (sSa ad (80 + 3 * k) 3)) := (lay_at hd (show sL n (70 + k) by unfold sL; omega)).trans (by rw [sC_U (by omega)])
theorem sM_S (hd : sAd n ad) (hn : n ≤ 6) {k : Nat} (h : k < 3 * n) : sM G ad n r f dv M0 (ad (80 + k)) = some (eO 7 (sFS ad r k)) := (lay_at hd (show sL n (80 + k) by unfold sL; omega)).trans (by rw [sC_S (by omega)])
theorem sM_V (hd : sAd n ad) (hn : n ≤ 6) {k : Nat} (h : k < 3 * n) : sM G ad n r f dv M0 (ad (100 + k)) = some (eI (G.2.1 0) 40 (sSl r (126 + 40 * k) 40)) := (lay_at hd (show sL n (100 + k) by unfold sL; omega)).trans (by rw [sC_V (by omega)])
theorem sM_O (hd : sAd n ad) (hn : n ≤ 6) {k : Nat} (h : k < 3 * n) : sM G ad n r f dv M0 (ad (120 + k)) = some (eI (G.2.1 0) 40 (sSl r (846 + 40 * k) 40)) := (lay_at hd (show sL n (120 + k) by unfold sL; omega)).trans (by rw [sC_O (by omega)])
theorem sM_F (hd : sAd n ad) {k : Nat} (h : k < 3 * n) : sM G ad n r f dv M0 (ad (140 + k)) = some (eF (G.2.1 1) 40 (sSf f (40 * k) 40)) := (lay_at hd (show sL n (140 + k) by unfold sL; omega)).trans (by rw [sC_F])
end SM0
