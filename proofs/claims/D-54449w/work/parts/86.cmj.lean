/-! A PACK BY ITSELF, growing surface by surface -/
/-- the parts of the pack k with s surfaces -/
def pLs (k s i : Nat) : Prop := i = 60 + k ∨ i = 70 + k ∨ (80 + 3 * k ≤ i ∧ i < 80 + 3 * k + s) ∨ (100 + 3 * k ≤ i ∧ i < 100 + 3 * k + s) ∨ (120 + 3 * k ≤ i ∧ i < 120 + 3 * k + s) ∨ (140 + 3 * k ≤ i ∧ i < 140 + 3 * k + s)
def pap (ap u : Nat → Nat) (k s : Nat) : Nat → Nat := fun i => if 80 + 3 * k + s ≤ i ∧ (i - (80 + 3 * k + s)) % 20 = 0 ∧ (i - (80 + 3 * k + s)) / 20 < 4 then u ((i - (80 + 3 * k + s)) / 20) else ap i
theorem pap_new {ap u : Nat → Nat} {k s c i : Nat} (hc : c < 4) (hi : i = 80 + 20 * c + 3 * k + s) : pap ap u k s i = u c := by
  subst hi
  unfold pap
  rw [if_pos ⟨by omega, by omega, by omega⟩, show (80 + 20 * c + 3 * k + s - (80 + 3 * k + s)) / 20 = c by omega]
theorem pap_old {ap u : Nat → Nat} {k s i : Nat} (hk : k < 6) (hs : s < 3) (h : pLs k s i) : pap ap u k s i = ap i := by
  unfold pLs at h
  unfold pap
  rw [if_neg (by omega)]
theorem pLs_or {k s i : Nat} (h : pLs k (s + 1) i) : pLs k s i ∨ ∃ c, c < 4 ∧ i = 80 + 20 * c + 3 * k + s := by
  unfold pLs at h ⊢
  by_cases h0 : i = 80 + 3 * k + s
  · exact Or.inr ⟨0, by omega, by omega⟩
  · by_cases h1 : i = 100 + 3 * k + s
    · exact Or.inr ⟨1, by omega, by omega⟩
    · by_cases h2 : i = 120 + 3 * k + s
      · exact Or.inr ⟨2, by omega, by omega⟩
      · by_cases h3 : i = 140 + 3 * k + s
        · exact Or.inr ⟨3, by omega, by omega⟩
        · exact Or.inl (by omega)
theorem sC_ad {G : mG} {ad ad' : Nat → Nat} {r : Nat → Int32} {f : Nat → UInt32} {dv : Nat → Int32} {i : Nat} (h8 : 80 ≤ i) (h : i < 100 → ad (i + 20) = ad' (i + 20) ∧ ad (i + 40) = ad' (i + 40) ∧ ad (i + 60) = ad' (i + 60)) : sC G ad 0 r f dv i = sC G ad' 0 r f dv i := by
  by_cases q : i < 100
  · obtain ⟨j, rfl⟩ : ∃ j, i = 80 + j := ⟨i - 80, by omega⟩
    obtain ⟨a, b, c⟩ := h q
    rw [sC_S (by omega), sC_S (by omega)]
    unfold sFS
    rw [show 100 + j = 80 + j + 20 by omega, show 120 + j = 80 + j + 40 by omega, show 140 + j = 80 + j + 60 by omega, a, b, c]
  · unfold sC
    simp only [if_neg (show ¬ i < 10 by omega), if_neg (show ¬ i < 20 by omega), if_neg (show ¬ i < 30 by omega), if_neg (show ¬ i < 40 by omega), if_neg (show ¬ i < 60 by omega), if_neg (show ¬ i < 70 by omega), if_neg (show ¬ i < 80 by omega), if_neg q]
/-- the pack k as far as s surfaces: q itself, ua its array -/
def pkPart (G : mG) (q ua k s : Nat) (r : Nat → Int32) (f : Nat → UInt32) (dv : Nat → Int32) (ap : Nat → Nat) (M0 Mx : mM) : Prop := ap (60 + k) = q ∧ ap (70 + k) = ua ∧ lInj (pLs k s) ap ∧ (∀ i, pLs k s i → i ≠ 60 + k → M0 (ap i) = none) ∧ (∀ i, pLs k s i → 80 ≤ i → Mx (ap i) = some (sC G ap 0 r f dv i))
abbrev pkA (ap : Nat → Nat) (k s : Nat) : Nat → Option Nat := fun j => if j < s then some (ap (80 + 3 * k + j)) else none
theorem pkStep {G : mG} {q ua k s x : Nat} {r : Nat → Int32} {f : Nat → UInt32} {dv : Nat → Int32} {ap : Nat → Nat} {M0 Mx M1 : mM} {eq : mE} (hk : k < 6) (hs : s < 3) (hN : NewB M0 q Mx) (hq : Mx q = some eq) (hua : Mx ua = some (eQ (G.2.1 7) 3 (pkA ap k s))) (hp : pkPart G q ua k s r f dv ap M0 Mx)
    (hu : suMade G x (sSl r (126 + 40 * (3 * k + s)) 40) (sSl r (846 + 40 * (3 * k + s)) 40) (sSf f (40 * (3 * k + s)) 40) (r (96 + (3 * k + s))) Mx M1) :
    ∃ ap', pkPart G q ua k (s + 1) r f dv ap' M0 (mup M1 ua (eQ (G.2.1 7) 3 (va_up (pkA ap k s) s (some x)))) ∧ va_up (pkA ap k s) s (some x) = pkA ap' k (s + 1) := by
  obtain ⟨p1, p2, p3, p4, p5⟩ := hp
  obtain ⟨u, u0, ui, uf, uN, s0, s1, s2, s3⟩ := hu
  have hold : ∀ i, pLs k s i → ∃ y, Mx (ap i) = some y := fun i hi => by
    by_cases a : i = 60 + k
    · exact ⟨_, by rw [a, p1]; exact hq⟩
    · by_cases b : i = 70 + k
      · exact ⟨_, by rw [b, p2]; exact hua⟩
      · exact ⟨_, p5 i hi (by unfold pLs at hi; omega)⟩
  have old : ∀ i, pLs k s i → pap ap u k s i = ap i := fun i hi => pap_old hk hs hi
  have sub : ∀ i, pLs k s i → pLs k (s + 1) i := fun i hi => by unfold pLs at hi ⊢; omega
  have l70 : pLs k s (70 + k) := Or.inr (Or.inl rfl)
  have una : ∀ c, c < 4 → u c ≠ ua := fun c hc e => by
    have := uf c hc
    rw [e, hua] at this
    cases this
  refine ⟨pap ap u k s, ⟨(old _ (Or.inl rfl)).trans p1, (old _ l70).trans p2, ?_, ?_, ?_⟩, ?_⟩
  · intro i j hi hj e
    rcases pLs_or hi with a | ⟨c, hc, a⟩
    · rcases pLs_or hj with b | ⟨d, hd, b⟩
      · rw [old i a, old j b] at e
        exact p3 i j a b e
      · rw [old i a, pap_new hd b] at e
        obtain ⟨y, hy⟩ := hold i a
        rw [e, uf d hd] at hy
        cases hy
    · rcases pLs_or hj with b | ⟨d, hd, b⟩
      · rw [pap_new hc a, old j b] at e
        obtain ⟨y, hy⟩ := hold j b
        rw [← e, uf c hc] at hy
        cases hy
      · rw [pap_new hc a, pap_new hd b] at e
        have := ui c d hc hd e
        omega
  · intro i hi hne
    rcases pLs_or hi with a | ⟨c, hc, a⟩
    · rw [old i a]
      exact p4 i a hne
    · rw [pap_new hc a]
      exact hN.none hq (uf c hc)
  · intro i hi h8
    rcases pLs_or hi with a | ⟨c, hc, a⟩
    · rw [old i a, mup_ne (fun e => by
        have := p3 i (70 + k) a l70 (e.trans p2.symm)
        omega)]
      rw [uN _ _ (p5 i a h8)]
      congr 1
      refine sC_ad h8 (fun h1 => ?_)
      have h1' : pLs k s (i + 20) ∧ pLs k s (i + 40) ∧ pLs k s (i + 60) := by
        unfold pLs at a ⊢
        exact ⟨by omega, by omega, by omega⟩
      exact ⟨(old _ h1'.1).symm, (old _ h1'.2.1).symm, (old _ h1'.2.2).symm⟩
    · rw [pap_new hc a, mup_ne (una c hc)]
      have c4 : c = 0 ∨ c = 1 ∨ c = 2 ∨ c = 3 := by omega
      rcases c4 with rfl | rfl | rfl | rfl
      · rw [s0, show i = 80 + (3 * k + s) by omega, sC_S (by omega)]
        unfold sFS
        rw [pap_new (c := 1) (by omega) (by omega), pap_new (c := 2) (by omega) (by omega), pap_new (c := 3) (by omega) (by omega)]
      · rw [s1, show i = 100 + (3 * k + s) by omega, sC_V (by omega)]
      · rw [s2, show i = 120 + (3 * k + s) by omega, sC_O (by omega)]
      · rw [s3, show i = 140 + (3 * k + s) by omega, sC_F]
  · funext j
    unfold va_up pkA
    by_cases e : j = s
    · rw [if_pos e, if_pos (by omega), pap_new (c := 0) (by omega) (by omega), u0]
    · rw [if_neg e]
      by_cases e2 : j < s
      · rw [if_pos e2, if_pos (by omega), old _ (by unfold pLs; omega)]
      · rw [if_neg e2, if_neg (by omega)]
/-- a pack all of whose cells but itself are new -/
def pkNew (G : mG) (q k : Nat) (r : Nat → Int32) (f : Nat → UInt32) (dv : Nat → Int32) (M0 M1 : mM) : Prop := ∃ ap : Nat → Nat, ap (60 + k) = q ∧ lInj (pLs k 3) ap ∧ (∀ i, pLs k 3 i → i ≠ 60 + k → M0 (ap i) = none) ∧ NewB M0 q M1 ∧ (∀ i, pLs k 3 i → M1 (ap i) = some (sC G ap 0 r f dv i))
def pkMade (G : mG) (q k : Nat) (r : Nat → Int32) (f : Nat → UInt32) (dv : Nat → Int32) (M0 M1 : mM) : Prop := ∃ ap : Nat → Nat, ap (60 + k) = q ∧ lInj (pLs k 3) ap ∧ (∀ i, pLs k 3 i → M0 (ap i) = none) ∧ New M0 M1 ∧ (∀ i, pLs k 3 i → M1 (ap i) = some (sC G ap 0 r f dv i))
theorem pkNew.of {G : mG} {q ua k : Nat} {r : Nat → Int32} {f : Nat → UInt32} {dv : Nat → Int32} {ap : Nat → Nat} {M0 Mx : mM} (hk : k < 6) (hN : NewB M0 q Mx) (hq : Mx q = some (eO 6 [.int (r (90 + k)), .ref ua, .int (dv k)])) (hua : Mx ua = some (eQ (G.2.1 7) 3 (pkA ap k 3))) (hp : pkPart G q ua k 3 r f dv ap M0 Mx) : pkNew G q k r f dv M0 Mx := by
  obtain ⟨p1, p2, p3, p4, p5⟩ := hp
  refine ⟨ap, p1, p3, p4, hN, fun i hi => ?_⟩
  by_cases a : i = 60 + k
  · rw [a, p1, hq, sC_P (by omega)]
    unfold sFP
    rw [p2]
  · by_cases b : i = 70 + k
    · rw [b, p2, hua, sC_U (by omega)]
      rfl
    · exact p5 i hi (by unfold pLs at hi; omega)
theorem pkMade.of {G : mG} {q k : Nat} {r : Nat → Int32} {f : Nat → UInt32} {dv : Nat → Int32} {M0 M1 : mM} {e : mE} (hq : M0 q = none) (h : pkNew G q k r f dv (mup M0 q e) M1) : pkMade G q k r f dv M0 M1 := by
  obtain ⟨ap, h1, h2, h3, h4, h5⟩ := h
  have hn : New M0 (mup M0 q e) := fun a x h => kp_new hq h
  refine ⟨ap, h1, h2, fun i hi => ?_, fun a x h => h4 a x (hn a x h) (kp_ne hq h), h5⟩
  by_cases e0 : i = 60 + k
  · rw [e0, h1]; exact hq
  · exact hn.none (h3 i hi e0)
theorem pkPart.start {G : mG} {q ua k : Nat} {r : Nat → Int32} {f : Nat → UInt32} {dv : Nat → Int32} {M0 Mx : mM} (hk : k < 6) (hne : q ≠ ua) (hz : M0 ua = none) : pkPart G q ua k 0 r f dv (fun i => if i = 60 + k then q else ua) M0 Mx := by
  refine ⟨if_pos rfl, if_neg (by omega), fun i j hi hj e => ?_, fun i hi h2 => ?_, fun i hi h8 => ?_⟩
  · unfold pLs at hi hj
    dsimp only at e
    by_cases a : i = 60 + k
    · by_cases b : j = 60 + k
      · omega
      · rw [if_pos a, if_neg b] at e
        exact absurd e hne
    · by_cases b : j = 60 + k
      · rw [if_neg a, if_pos b] at e
        exact absurd e.symm hne
      · omega
  · dsimp only
    rw [if_neg h2]
    exact hz
  · unfold pLs at hi
    omega
theorem suMade.new {G : mG} {q : Nat} {V O : Nat → Int32} {S : Nat → UInt32} {sc : Int32} {M0 M1 : mM} (h : suMade G q V O S sc M0 M1) : New M0 M1 := by
  obtain ⟨u, -, -, -, h4, -⟩ := h
  exact h4
theorem suMade.cell {G : mG} {q : Nat} {V O : Nat → Int32} {S : Nat → UInt32} {sc : Int32} {M0 M1 : mM} (h : suMade G q V O S sc M0 M1) : ∃ fs, M1 q = some (eO 7 fs) := by
  obtain ⟨u, rfl, -, -, -, h5, -⟩ := h
  exact ⟨_, h5⟩
