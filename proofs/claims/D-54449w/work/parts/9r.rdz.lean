/-! A STATE IN ORDER: its drives' and packs' own notes agree; what an order does to it -/
def zOk (ad : Nat → Nat) (n : Nat) (r : Nat → Int32) (f : Nat → UInt32) (dv : Nat → Int32) : Prop := sAd n ad ∧ n ≤ 6 ∧ mInv r f ∧ r 89 = nI n ∧ ∀ k, k < n → dv k = mDw r (nI k)
/-- packs in drives, and how many, stay -/
def zSm (r r' : Nat → Int32) : Prop := r' 89 = r 89 ∧ ∀ j, j < 4 → r' (60 + j) = r (60 + j)
section ZOK
variable {ad : Nat → Nat} {n : Nat} {r r' r'' : Nat → Int32} {f f' : Nat → UInt32} {dv : Nat → Int32} {d k i : Nat} {x z u : Int32}
theorem zSm.rf : zSm r r := ⟨rfl, fun _ _ => rfl⟩
theorem zSm.up (h : zSm r r') (hi : i ≠ 89 ∧ (i < 60 ∨ 64 ≤ i)) : zSm r (va_up r' i x) := ⟨(va_up_ne _ _ (by omega)).trans h.1, fun j hj => (va_up_ne _ _ (by omega)).trans (h.2 j hj)⟩
theorem mDw_cg (h : ∀ j, j < 4 → (r' (60 + j) = x ↔ r (60 + j) = x)) : mDw r' x = mDw r x := by
  have h0 := h 0 (by decide)
  have h1 := h 1 (by decide)
  have h2 := h 2 (by decide)
  have h3 := h 3 (by decide)
  unfold mDw
  simp only [Nat.add_zero] at h0
  simp only [h0, h1, h2, h3]
theorem mDw_neg (h : mDw r x = -1) : ∀ j, j < 4 → r (60 + j) ≠ x := by
  intro j hj q
  have key : ∀ m, m < 4 → (∀ i, i < m → r (60 + i) ≠ x) → r (60 + m) = x → False := fun m hm h1 h2 => by
    rw [mDw_at hm h1 h2] at h
    exact m1_ne_nI (by omega) h
  by_cases e0 : r (60 + 0) = x
  · exact key 0 (by decide) (fun i hi => absurd hi (Nat.not_lt_zero _)) e0
  · by_cases e1 : r (60 + 1) = x
    · exact key 1 (by decide) (fun i hi => by rw [show i = 0 by omega]; exact e0) e1
    · by_cases e2 : r (60 + 2) = x
      · exact key 2 (by decide) (fun i hi => by rcases (show i = 0 ∨ i = 1 by omega) with rfl | rfl <;> assumption) e2
      · by_cases e3 : r (60 + 3) = x
        · exact key 3 (by decide) (fun i hi => by rcases (show i = 0 ∨ i = 1 ∨ i = 2 by omega) with rfl | rfl | rfl <;> assumption) e3
        · rcases (show j = 0 ∨ j = 1 ∨ j = 2 ∨ j = 3 by omega) with rfl | rfl | rfl | rfl
          · exact e0 q
          · exact e1 q
          · exact e2 q
          · exact e3 q
theorem zOk.same (h : zOk ad n r f dv) (hI : mInv r' f') (hs : zSm r r') : zOk ad n r' f' dv :=
  ⟨h.1, h.2.1, hI, hs.1.trans h.2.2.2.1, fun k hk => (h.2.2.2.2 k hk).trans (mDw_cg (fun j hj => by rw [hs.2 j hj])).symm⟩
theorem zOk.mount (h : zOk ad n r f dv) (hd : d < 4) (hk : k < n) (hp : r (60 + d) = -1) (hv : dv k = -1) (hI : mInv (va_up r (60 + d) (nI k)) f) : zOk ad n (va_up r (60 + d) (nI k)) f (va_up dv k (nI d)) := by
  obtain ⟨h1, h2, h3, h4, h5⟩ := h
  refine ⟨h1, h2, hI, (va_up_ne _ _ (by omega)).trans h4, fun p hp2 => ?_⟩
  have hn := mDw_neg ((h5 k hk).symm.trans hv)
  by_cases e : p = k
  · subst e
    rw [va_up_self]
    exact (mDw_at hd (fun j hj => by rw [va_up_ne _ _ (by omega)]; exact hn j (by omega)) (va_up_self _ _ _)).symm
  · rw [va_up_ne _ _ e, h5 p hp2]
    refine (mDw_cg (fun j hj => ?_)).symm
    by_cases ej : j = d
    · subst ej
      rw [va_up_self, hp]
      exact ⟨fun q => absurd (nK_inj (by omega) (by omega) q) (fun q => e q.symm), fun q => absurd q.symm (m1_ne_nI (by omega))⟩
    · rw [va_up_ne _ _ (by omega)]
theorem zOk.unmount (h : zOk ad n r f dv) (hd : d < 4) (hk : k < n) (hp : r (60 + d) = nI k) (hI : mInv (nUnm r d) f) : zOk ad n (nUnm r d) f (va_up dv k (-1)) := by
  obtain ⟨h1, h2, h3, h4, h5⟩ := h
  have e60 : ∀ j, j < 4 → nUnm r d (60 + j) = if j = d then -1 else r (60 + j) := fun j hj => by
    unfold nUnm
    rw [va_up_ne _ _ (by omega)]
    by_cases e : j = d
    · subst e
      rw [va_up_self, if_pos rfl]
    · rw [va_up_ne _ _ (by omega), if_neg e]
  refine ⟨h1, h2, hI, by unfold nUnm; rw [va_up_ne _ _ (by omega), va_up_ne _ _ (by omega)]; exact h4, fun p hp2 => ?_⟩
  by_cases e : p = k
  · subst e
    rw [va_up_self]
    refine (mDw_none (fun j hj q => ?_)).symm
    rw [e60 j hj] at q
    by_cases ej : j = d
    · rw [if_pos ej] at q
      exact m1_ne_nI (by omega) q.symm
    · rw [if_neg ej] at q
      rcases h3.2.2.2.2.2.2.2.2.2.2.2.2 j d hj hd (q.trans hp.symm) with g | g
      · rw [q] at g
        exact m1_ne_nI (by omega) g
      · exact ej g
  · rw [va_up_ne _ _ e, h5 p hp2]
    refine (mDw_cg (fun j hj => ?_)).symm
    rw [e60 j hj]
    by_cases ej : j = d
    · rw [if_pos ej, ej, hp]
      exact ⟨fun q => absurd q.symm (m1_ne_nI (by omega)), fun q => absurd (nK_inj (by omega) (by omega) q) (fun q => e q.symm)⟩
    · rw [if_neg ej]
/-- what is in a drive -/
theorem zOk.pk (h : zOk ad n r f dv) (hd : d < 4) : r (60 + d) = -1 ∨ ∃ k, k < n ∧ r (60 + d) = nI k := by
  obtain ⟨h1, h2, h3, h4, -⟩ := h
  obtain ⟨np, e, g, q, -⟩ := h3.1
  have : np = n := nK_inj (by omega) (by omega) (e.symm.trans h4)
  rw [← this]
  exact q d hd
theorem zOk.cy (h : zOk ad n r f dv) (hd : d < 4) : ∃ q0, q0 < 40 ∧ r (52 + d) = nI q0 := h.2.2.1.2.2.2.2.2.1 d hd
theorem zOk.tr (h : zOk ad n r f dv) : ∃ t, r 88 = nI t ∧ t ≤ 8 := h.2.2.1.2.1
theorem zSm.rub {g : Nat} (h : zSm r r') (hd : d < 4) (hg : g < 3) (hk : k < 6) : zSm r (nRubR r' d g k) := by
  unfold nRubR
  split
  · exact h.up (by omega)
  · split
    · split
      · exact ((h.up (by omega)).up (by omega)).up (by omega)
      · exact h.up (by omega)
    · exact h
theorem zSm.wr {g q0 : Nat} (h : zSm r r') (hd : d < 4) (hg : g < 3) (hk : k < 6) (hq : q0 < 40) : zSm r (nWrR r' d g k q0 x) := by
  unfold nWrR
  exact (h.up (by omega)).up (by omega)
theorem zSm.rd {t : Nat} (h : zSm r r') (hd : d < 4) (hk : k < 6) : zSm r (nRdR r' d k t x) := by
  have hA : zSm r (nRdA r' d k t x) := by
    unfold nRdA
    dsimp only
    refine ((h.up ?_).up (by omega)).up (by omega)
    split <;> decide
  unfold nRdR
  split
  · exact hA.up (by omega)
  · exact hA
theorem zSm.pol (h : zSm r r') (hk : k < 6) : zSm r (nPolR r' k 3) := ((h.up (by omega)).up (by omega)).up (by omega)
theorem zSm.mend {g : Nat} (h : zSm r r') (hd : d < 4) (hg : g < 4) : zSm r (nMend r' d g) := by
  unfold nMend
  exact ((h.up (by omega)).up (by omega)).up (by omega)
theorem zSm.str {g : Nat} (h : zSm r r') (hd : d < 4) (hg : g < 4) : zSm r (nStr r' d g) := by
  unfold nStr
  split
  · exact ((h.up (by omega)).up (by omega)).up (by omega)
  · exact ((h.up (by omega)).up (by omega)).up (by omega)
end ZOK
/-- an order's numbers are in their ranges -/
def rOk (L x z u : Int32) : Prop :=
  (L = nI 109 ∧ (∃ d, d < 4 ∧ x = nI d) ∧ ∃ k, k < 6 ∧ z = nI k) ∨ (L = nI 117 ∧ ∃ d, d < 4 ∧ x = nI d) ∨ (L = nI 115 ∧ (∃ d, d < 4 ∧ x = nI d) ∧ ∃ k, k < 40 ∧ z = nI k) ∨
  (L = nI 119 ∧ (∃ d, d < 4 ∧ x = nI d) ∧ (∃ k, k < 3 ∧ z = nI k) ∧ ∃ k, k < 1000 ∧ u = nI k) ∨ (L = nI 114 ∧ (∃ d, d < 4 ∧ x = nI d) ∧ ∃ k, k < 3 ∧ z = nI k) ∨ (L = nI 118 ∧ (∃ d, d < 4 ∧ x = nI d) ∧ (z = nI 0 ∨ z = nI 1)) ∨
  (L = nI 99 ∧ ∃ d, d < 6 ∧ x = nI d) ∨ (L = nI 102 ∧ (∃ d, d < 4 ∧ x = nI d) ∧ ∃ k, k < 4 ∧ z = nI k)
section ROK
variable {b t : Nat → Int32} {nb pl : Nat} {w : Bool}
theorem rL_bd (hb : rTx b t nb) {g : Nat} (hg : g < 1000) : ∀ j sp v, 0 < v → v ≤ g → ∃ m, m ≤ g ∧ (tNl b nb g j sp (nI v)).2 = nI m := by
  intro j
  induction j with
  | zero => intro sp v _ h; exact ⟨v, h, rfl⟩
  | succ j ih =>
    intro sp v h0 h
    by_cases c : (nI 48 ≤ tSg b nb sp ∧ tSg b nb sp ≤ nI 57) ∧ ¬ nI g < nI 10 * nI v + tSg b nb sp - nI 48
    · rw [rL_go c]
      obtain ⟨⟨q1, q2⟩, q3⟩ := c
      rcases rSg_or (pl := sp) hb with ⟨-, e, g1, g2, -, g4⟩ | ⟨-, -, g4⟩
      · rw [g4, nK_le (by omega) (by omega)] at q1 q2
        have hv := rL_val (v := v) (d := e - 48) (by omega) (by omega) h0
        rw [show 48 + (e - 48) = e by omega] at hv
        rw [g4, hv, nK_lt (by omega) (by omega)] at q3
        rw [g4, hv]
        exact ih _ _ (by omega) (by omega)
      · rw [g4] at q1
        exact absurd q1 (by decide)
    · rw [rL_no c]
      exact ⟨v, h, rfl⟩
theorem rNum_bd (hb : rTx b t nb) {g : Nat} (hg : g < 1000) (hw : tNd b nb (nI 48) (rHi g) pl w = true) : ∃ m, m < g + 1 ∧ (rNum b nb g pl w).2 = nI m := by
  obtain ⟨-, w2, w3⟩ := tNd_in hw
  unfold rHi at w3
  rcases rSg_or (pl := pl) hb with ⟨-, c, g1, g2, -, g4⟩ | ⟨-, -, g4⟩
  · rw [g4, nK_le (by omega) (by omega)] at w2 w3
    have hv : tSg b nb pl - nI 48 = nI (c - 48) := by rw [g4]; exact nK_subt w2
    by_cases h0 : 0 < tSg b nb pl - nI 48
    · rw [rNum_l hw h0, hv]
      rw [hv] at h0
      obtain ⟨m, hm, e⟩ := rL_bd hb hg (nb - (pl + 1)) (pl + 1) (c - 48) (Nat.pos_of_ne_zero (fun q => by rw [q] at h0; exact absurd h0 (by decide))) (by omega)
      exact ⟨m, by omega, e⟩
    · rw [rNum_z hw h0]
      exact ⟨c - 48, by omega, hv⟩
  · rw [g4] at w2
    exact absurd w2 (by decide)
theorem rOk_of (hb : rTx b t nb) (h : (tPart b nb (tSg b nb pl) pl).2.1 = true) : rOk (tSg b nb pl) (tPart b nb (tSg b nb pl) pl).2.2.1 (tPart b nb (tSg b nb pl) pl).2.2.2.1 (tPart b nb (tSg b nb pl) pl).2.2.2.2 := by
  cases hp : tP1 (tSg b nb pl) with
  | false => rw [(rP_no hp).2] at h; cases h
  | true =>
    unfold tP1 at hp
    have hp := of_decide_eq_true hp
    unfold rOk
    have n4 : ∀ {m : Nat} {y : Int32}, (∃ j, j < m ∧ y = nI j) → ∃ j, j < m ∧ y = nI j := fun q => q
    rcases hp with q | q | q | q | q | q | q | q
    · rw [q, rP_m hb] at h ⊢
      have w2 : rW2 b nb 3 pl = true := tNd_w (tNd_w h)
      exact Or.inl ⟨rfl, rNum_bd hb (by decide) w2, rNum_bd hb (by decide) h⟩
    · rw [q, rP_u hb] at h ⊢
      exact Or.inr (Or.inl ⟨rfl, rNum_bd hb (by decide) h⟩)
    · rw [q, rP_s hb] at h ⊢
      have w2 : rW2 b nb 3 pl = true := tNd_w (tNd_w h)
      exact Or.inr (Or.inr (Or.inl ⟨rfl, rNum_bd hb (by decide) w2, rNum_bd hb (by decide) h⟩))
    · rw [q, rP_w hb] at h ⊢
      have w3 : rSW b nb pl = true := tNd_w (tNd_w h)
      have w2 : rW2 b nb 3 pl = true := tNd_w (tNd_w w3)
      exact Or.inr (Or.inr (Or.inr (Or.inl ⟨rfl, rNum_bd hb (by decide) w2, rNum_bd hb (by decide) w3, rNum_bd hb (by decide) h⟩)))
    · rw [q, rP_r hb] at h ⊢
      have w2 : rW2 b nb 3 pl = true := tNd_w (tNd_w h)
      exact Or.inr (Or.inr (Or.inr (Or.inr (Or.inl ⟨rfl, rNum_bd hb (by decide) w2, rNum_bd hb (by decide) h⟩))))
    · rw [q, rP_v hb] at h ⊢
      have w2 : rW2 b nb 3 pl = true := tNd_w h
      refine Or.inr (Or.inr (Or.inr (Or.inr (Or.inr (Or.inl ⟨rfl, rNum_bd hb (by decide) w2, ?_⟩)))))
      show (if rSg b nb (rN2 b nb 3 pl).1 = nI 43 then nI 1 else nI 0) = nI 0 ∨ _
      by_cases c : rSg b nb (rN2 b nb 3 pl).1 = nI 43
      · rw [if_pos c]; exact Or.inr rfl
      · rw [if_neg c]; exact Or.inl rfl
    · rw [q, rP_c hb] at h ⊢
      exact Or.inr (Or.inr (Or.inr (Or.inr (Or.inr (Or.inr (Or.inl ⟨rfl, rNum_bd hb (by decide) h⟩))))))
    · rw [q, rP_f hb] at h ⊢
      have w2 : rW2 b nb 3 pl = true := tNd_w (tNd_w h)
      exact Or.inr (Or.inr (Or.inr (Or.inr (Or.inr (Or.inr (Or.inr ⟨rfl, rNum_bd hb (by decide) w2, rNum_bd hb (by decide) h⟩))))))
end ROK
theorem rOk.wl {L x z u : Int32} (h : rOk L x z u) : tWl L x z := by
  unfold tWl
  rcases h with ⟨h, -⟩ | ⟨h, -⟩ | ⟨h, -⟩ | ⟨h, -⟩ | ⟨h, -⟩ | ⟨h, -, h2⟩ | ⟨h, -⟩ | ⟨h, ⟨d, h1, h2⟩, ⟨k, h3, h4⟩⟩
  · exact Or.inl h
  · exact Or.inr (Or.inl h)
  · exact Or.inr (Or.inr (Or.inl h))
  · exact Or.inr (Or.inr (Or.inr (Or.inl h)))
  · exact Or.inr (Or.inr (Or.inr (Or.inr (Or.inl h))))
  · exact Or.inr (Or.inr (Or.inr (Or.inr (Or.inr (Or.inl ⟨h, h2⟩)))))
  · exact Or.inr (Or.inr (Or.inr (Or.inr (Or.inr (Or.inr (Or.inl h))))))
  · exact Or.inr (Or.inr (Or.inr (Or.inr (Or.inr (Or.inr (Or.inr ⟨h, ⟨d, h1, h2⟩, ⟨k, h3, h4⟩⟩))))))
