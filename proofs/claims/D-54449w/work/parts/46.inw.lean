/-! WHAT ALWAYS HOLDS OF THE NUMBERS HOLDS ON: every change of the row -/
/-- a change of the row that breaks nothing -/
def okU (np i : Nat) (x : Int32) : Prop :=
  (i < 16 → bnd 40 x) ∧ (16 ≤ i → i < 32 → x = nI 0 ∨ x = nI 1) ∧ (48 ≤ i → i < 52 → bnd 20 x) ∧ (52 ≤ i → i < 56 → ∃ c0 : Nat, c0 < 40 ∧ x = nI c0) ∧
  (56 ≤ i → i < 60 → x = nI 0 ∨ x = nI 1) ∧ (i < 60 ∨ 64 ≤ i) ∧ (64 ≤ i → i < 88 → bnd 40 x) ∧ (i = 88 → ∃ t : Nat, x = nI t ∧ t ≤ 8) ∧ (i < 89 ∨ 96 ≤ i) ∧
  (96 ≤ i → i < 114 → (x = nI 0 ∨ x = nI 1) ∧ i < 96 + 3 * np) ∧ (126 ≤ i → i < 846 → i < 126 + 120 * np) ∧ (846 ≤ i → i < 1566 → bnd 4200 x ∧ i < 846 + 120 * np)
theorem mInv_up {r : Nat → Int32} {f : Nat → UInt32} {np i : Nat} {x : Int32} (h : mInv r f) (hnp : r 89 = nI np) (hn6 : np ≤ 6) (u : okU np i x) : mInv (va_up r i x) f := by
  obtain ⟨⟨np1, hnp1, h61, hpk, hun⟩, ⟨t, ht, ht8⟩, h3, h4, h5, h6, h7, h8, h9, h10, h11, h12, h13⟩ := h
  obtain ⟨u1, u2, u3, u4, u5, u6, u7, u8, u9, u10, u11, u12⟩ := u
  have e : np1 = np := nK_inj (by omega) (by omega) (hnp1.symm.trans hnp)
  subst e
  have at_ : ∀ j, j ≠ i → va_up r i x j = r j := fun j hj => va_up_ne _ _ hj
  have sf : va_up r i x i = x := va_up_self _ _ _
  have gen : ∀ (P : Int32 → Prop) (j : Nat), (j = i → P x) → P (r j) → P (va_up r i x j) := fun P j h1 h2 => by
    by_cases e : j = i
    · rw [e, sf]; exact h1 e
    · rw [at_ j e]; exact h2
  refine ⟨⟨np1, ?_, h61, fun d hd => ?_, fun k k1 k2 s0 hs => ⟨?_, fun c0 hc => ⟨?_, ?_, ?_⟩⟩⟩, ?_, fun j hj => ?_, fun j hj => ?_, fun d hd => ?_, fun d hd => ?_, fun d hd => ?_, fun j hj => ?_, fun k hk => ?_, fun j hj => ?_, fun j hj => ?_, h12, fun d e hd he => ?_⟩
  · rw [at_ _ (by clear u8 u4; omega)]; exact hnp1
  · rw [at_ _ (by clear u8 u4; omega)]; exact hpk d hd
  · rw [at_ _ (fun q => by have := u10 (by omega) (by omega); omega)]; exact (hun k k1 k2 s0 hs).1
  · rw [at_ _ (fun q => by have := u11 (by omega) (by omega); omega)]; exact ((hun k k1 k2 s0 hs).2 c0 hc).1
  · rw [at_ _ (fun q => by have := u12 (by omega) (by omega); omega)]; exact ((hun k k1 k2 s0 hs).2 c0 hc).2.1
  · exact ((hun k k1 k2 s0 hs).2 c0 hc).2.2
  · exact gen (fun z => ∃ t : Nat, z = nI t ∧ t ≤ 8) 88 (fun q => u8 q.symm) ⟨t, ht, ht8⟩
  · exact gen (bnd 40) _ (fun q => u1 (by omega)) (h3 j hj)
  · exact gen (fun z => z = nI 0 ∨ z = nI 1) _ (fun q => u2 (by omega) (by omega)) (h4 j hj)
  · exact gen (bnd 20) _ (fun q => u3 (by omega) (by omega)) (h5 d hd)
  · exact gen (fun z => ∃ c0 : Nat, c0 < 40 ∧ z = nI c0) _ (fun q => u4 (by omega) (by omega)) (h6 d hd)
  · exact gen (fun z => z = nI 0 ∨ z = nI 1) _ (fun q => u5 (by omega) (by omega)) (h7 d hd)
  · exact gen (bnd 40) _ (fun q => u7 (by omega) (by omega)) (h8 j hj)
  · rw [at_ _ (by clear u8 u4; omega)]; exact h9 k hk
  · exact gen (fun z => z = nI 0 ∨ z = nI 1) _ (fun q => (u10 (by omega) (by omega)).1) (h10 j hj)
  · exact gen (bnd 4200) _ (fun q => (u12 (by omega) (by omega)).1) (h11 j hj)
  · rw [at_ (60 + d) (by clear u8 u4; omega), at_ (60 + e) (by clear u8 u4; omega)]; exact h13 d e hd he
/-- a change of a strength on a pack that is -/
theorem mInv_fs {r : Nat → Int32} {f f' : Nat → UInt32} {np : Nat} (h : mInv r f) (hnp : r 89 = nI np) (hn6 : np ≤ 6) (hf : ∀ j, j < 720 → f' j ∈ fsL) (he : ∀ j, 120 * np ≤ j → f' j = f j) : mInv r f' := by
  obtain ⟨⟨np1, hnp1, h61, hpk, hun⟩, h2, h3, h4, h5, h6, h7, h8, h9, h10, h11, h12, h13⟩ := h
  have e : np1 = np := nK_inj (by omega) (by omega) (hnp1.symm.trans hnp)
  subst e
  exact ⟨⟨np1, hnp1, h61, hpk, fun k k1 k2 s0 hs => ⟨(hun k k1 k2 s0 hs).1, fun c0 hc => ⟨((hun k k1 k2 s0 hs).2 c0 hc).1, ((hun k k1 k2 s0 hs).2 c0 hc).2.1, by rw [he _ (by omega)]; exact ((hun k k1 k2 s0 hs).2 c0 hc).2.2⟩⟩⟩, h2, h3, h4, h5, h6, h7, h8, h9, h10, h11, hf, h13⟩
/-- a pack put in or taken out -/
theorem mInv_pk {r : Nat → Int32} {f : Nat → UInt32} {d : Nat} {x : Int32} (h : mInv r f) (hd : d < 4) (hx : x = -1 ∨ ∃ p0 np : Nat, r 89 = nI np ∧ np ≤ 6 ∧ p0 < np ∧ x = nI p0 ∧ ∀ e, e < 4 → r (60 + e) ≠ x) : mInv (va_up r (60 + d) x) f := by
  obtain ⟨⟨np1, hnp1, h61, hpk, hun⟩, ⟨t, ht, ht8⟩, h3, h4, h5, h6, h7, h8, h9, h10, h11, h12, h13⟩ := h
  have at_ : ∀ j, j ≠ 60 + d → va_up r (60 + d) x j = r j := fun j hj => va_up_ne _ _ hj
  have sf : va_up r (60 + d) x (60 + d) = x := va_up_self _ _ _
  refine ⟨⟨np1, ?_, h61, fun e he => ?_, fun k k1 k2 s0 hs => ⟨?_, fun c0 hc => ⟨?_, ?_, ?_⟩⟩⟩, ⟨t, ?_, ht8⟩, fun j hj => ?_, fun j hj => ?_, fun e he => ?_, fun e he => ?_, fun e he => ?_, fun j hj => ?_, fun k hk => ?_, fun j hj => ?_, fun j hj => ?_, h12, fun e1 e2 he1 he2 => ?_⟩
  · rw [at_ _ (by omega)]; exact hnp1
  · by_cases q : e = d
    · subst q
      rw [sf]
      rcases hx with hx | ⟨p0, np, a1, a2, a3, a4, -⟩
      · exact Or.inl hx
      · have e2 : np1 = np := nK_inj (by omega) (by omega) (hnp1.symm.trans a1)
        exact Or.inr ⟨p0, by omega, a4⟩
    · rw [at_ _ (by omega)]; exact hpk e he
  · rw [at_ _ (by omega)]; exact (hun k k1 k2 s0 hs).1
  · rw [at_ _ (by omega)]; exact ((hun k k1 k2 s0 hs).2 c0 hc).1
  · rw [at_ _ (by omega)]; exact ((hun k k1 k2 s0 hs).2 c0 hc).2.1
  · exact ((hun k k1 k2 s0 hs).2 c0 hc).2.2
  · rw [at_ _ (by omega)]; exact ht
  · rw [at_ _ (by omega)]; exact h3 j hj
  · rw [at_ _ (by omega)]; exact h4 j hj
  · rw [at_ _ (by omega)]; exact h5 e he
  · rw [at_ _ (by omega)]; exact h6 e he
  · rw [at_ _ (by omega)]; exact h7 e he
  · rw [at_ _ (by omega)]; exact h8 j hj
  · rw [at_ _ (by omega)]; exact h9 k hk
  · rw [at_ _ (by omega)]; exact h10 j hj
  · rw [at_ _ (by omega)]; exact h11 j hj
  · intro q
    by_cases g1 : e1 = d
    · by_cases g2 : e2 = d
      · exact Or.inr (g1.trans g2.symm)
      · subst g1
        rw [sf, at_ _ (by omega)] at q
        rw [sf]
        rcases hx with hx | ⟨p0, np, a1, a2, a3, a4, a5⟩
        · exact Or.inl hx
        · exact absurd q.symm (a5 e2 he2)
    · by_cases g2 : e2 = d
      · subst g2
        rw [sf, at_ _ (by omega)] at q
        rw [at_ _ (by omega)]
        rcases hx with hx | ⟨p0, np, a1, a2, a3, a4, a5⟩
        · exact Or.inl (q.trans hx)
        · exact absurd q (a5 e1 he1)
      · rw [at_ _ (by omega), at_ _ (by omega)] at q
        rw [at_ _ (by omega)]
        exact h13 e1 e2 he1 he2 q
theorem ok_off {np i : Nat} {x : Int32} (h6 : np ≤ 6) (h : bnd 40 x) (b1 : i < 16) : okU np i x := ⟨fun q => h, fun q1 q2 => (by omega), fun q1 q2 => (by omega), fun q1 q2 => (by omega), fun q1 q2 => (by omega), (by omega), fun q1 q2 => (by omega), fun q => (by omega), (by omega), fun q1 q2 => (by omega), fun q1 q2 => (by omega), fun q1 q2 => (by omega)⟩
theorem ok_str {np i : Nat} {x : Int32} (h6 : np ≤ 6) (h : x = nI 0 ∨ x = nI 1) (b1 : 16 ≤ i ∧ i < 32) : okU np i x := ⟨fun q => (by omega), fun q1 q2 => h, fun q1 q2 => (by omega), fun q1 q2 => (by omega), fun q1 q2 => (by omega), (by omega), fun q1 q2 => (by omega), fun q => (by omega), (by omega), fun q1 q2 => (by omega), fun q1 q2 => (by omega), fun q1 q2 => (by omega)⟩
theorem ok_any {np i : Nat} {x : Int32} (h6 : np ≤ 6) (b1 : (32 ≤ i ∧ i < 48) ∨ (114 ≤ i ∧ i < 126)) : okU np i x := ⟨fun q => (by omega), fun q1 q2 => (by omega), fun q1 q2 => (by omega), fun q1 q2 => (by omega), fun q1 q2 => (by omega), (by omega), fun q1 q2 => (by omega), fun q => (by omega), (by omega), fun q1 q2 => (by omega), fun q1 q2 => (by omega), fun q1 q2 => (by omega)⟩
theorem ok_warm {np i : Nat} {x : Int32} (h6 : np ≤ 6) (h : bnd 20 x) (b1 : 48 ≤ i ∧ i < 52) : okU np i x := ⟨fun q => (by omega), fun q1 q2 => (by omega), fun q1 q2 => h, fun q1 q2 => (by omega), fun q1 q2 => (by omega), (by omega), fun q1 q2 => (by omega), fun q => (by omega), (by omega), fun q1 q2 => (by omega), fun q1 q2 => (by omega), fun q1 q2 => (by omega)⟩
theorem ok_cyl {np i : Nat} {x : Int32} (h6 : np ≤ 6) (h : ∃ c0 : Nat, c0 < 40 ∧ x = nI c0) (b1 : 52 ≤ i ∧ i < 56) : okU np i x := ⟨fun q => (by omega), fun q1 q2 => (by omega), fun q1 q2 => (by omega), fun q1 q2 => h, fun q1 q2 => (by omega), (by omega), fun q1 q2 => (by omega), fun q => (by omega), (by omega), fun q1 q2 => (by omega), fun q1 q2 => (by omega), fun q1 q2 => (by omega)⟩
theorem ok_srv {np i : Nat} {x : Int32} (h6 : np ≤ 6) (h : x = nI 0 ∨ x = nI 1) (b1 : 56 ≤ i ∧ i < 60) : okU np i x := ⟨fun q => (by omega), fun q1 q2 => (by omega), fun q1 q2 => (by omega), fun q1 q2 => (by omega), fun q1 q2 => h, (by omega), fun q1 q2 => (by omega), fun q => (by omega), (by omega), fun q1 q2 => (by omega), fun q1 q2 => (by omega), fun q1 q2 => (by omega)⟩
theorem ok_lrn {np i : Nat} {x : Int32} (h6 : np ≤ 6) (h : bnd 40 x) (b1 : 64 ≤ i ∧ i < 88) : okU np i x := ⟨fun q => (by omega), fun q1 q2 => (by omega), fun q1 q2 => (by omega), fun q1 q2 => (by omega), fun q1 q2 => (by omega), (by omega), fun q1 q2 => h, fun q => (by omega), (by omega), fun q1 q2 => (by omega), fun q1 q2 => (by omega), fun q1 q2 => (by omega)⟩
theorem ok_try {np i : Nat} {x : Int32} (h6 : np ≤ 6) (h : ∃ t : Nat, x = nI t ∧ t ≤ 8) (b1 : i = 88) : okU np i x := ⟨fun q => (by omega), fun q1 q2 => (by omega), fun q1 q2 => (by omega), fun q1 q2 => (by omega), fun q1 q2 => (by omega), (by omega), fun q1 q2 => (by omega), fun q => h, (by omega), fun q1 q2 => (by omega), fun q1 q2 => (by omega), fun q1 q2 => (by omega)⟩
theorem ok_scr {np i : Nat} {x : Int32} (h6 : np ≤ 6) (h : x = nI 0 ∨ x = nI 1) (b1 : 96 ≤ i ∧ i < 96 + 3 * np) : okU np i x := ⟨fun q => (by omega), fun q1 q2 => (by omega), fun q1 q2 => (by omega), fun q1 q2 => (by omega), fun q1 q2 => (by omega), (by omega), fun q1 q2 => (by omega), fun q => (by omega), (by omega), fun q1 q2 => ⟨h, b1.2⟩, fun q1 q2 => (by omega), fun q1 q2 => (by omega)⟩
theorem ok_val {np i : Nat} {x : Int32} (h6 : np ≤ 6) (b1 : 126 ≤ i ∧ i < 126 + 120 * np) : okU np i x := ⟨fun q => (by omega), fun q1 q2 => (by omega), fun q1 q2 => (by omega), fun q1 q2 => (by omega), fun q1 q2 => (by omega), (by omega), fun q1 q2 => (by omega), fun q => (by omega), (by omega), fun q1 q2 => (by omega), fun q1 q2 => b1.2, fun q1 q2 => (by omega)⟩
theorem ok_pos {np i : Nat} {x : Int32} (h6 : np ≤ 6) (h : bnd 4200 x) (b1 : 846 ≤ i ∧ i < 846 + 120 * np) : okU np i x := ⟨fun q => (by omega), fun q1 q2 => (by omega), fun q1 q2 => (by omega), fun q1 q2 => (by omega), fun q1 q2 => (by omega), (by omega), fun q1 q2 => (by omega), fun q => (by omega), (by omega), fun q1 q2 => (by omega), fun q1 q2 => (by omega), fun q1 q2 => ⟨h, b1.2⟩⟩
theorem mInv_rub {r : Nat → Int32} {f : Nat → UInt32} {np d n p0 c0 : Nat} (h : mInv r f) (hnp : r 89 = nI np) (h6 : np ≤ 6) (h1 : d < 4) (h2 : n < 3) (h3 : p0 < np) (h4 : c0 < 40) : mInv (nRubR r d n p0) (nRubF r f d n p0 c0) := by
  have hF : mInv r (nRubF r f d n p0 c0) := by
    unfold nRubF
    split
    · refine mInv_fs h hnp h6 (fun j hj => ?_) (fun j hj => va_up_ne _ _ (by omega))
      by_cases e : j = 40 * (3 * p0 + n) + c0
      · rw [e, va_up_self]
        exact fs_half' (h.2.2.2.2.2.2.2.2.2.2.2.1 _ (by omega))
      · rw [va_up_ne _ _ e]
        exact h.2.2.2.2.2.2.2.2.2.2.2.1 j hj
    · exact h
  have k1 : nI 1 = nI 0 ∨ nI 1 = nI 1 := Or.inr rfl
  unfold nRubR
  split
  · exact mInv_up hF hnp h6 (ok_scr h6 k1 ⟨by omega, by omega⟩)
  · split
    · split
      · refine mInv_up (mInv_up (mInv_up hF hnp h6 (ok_any h6 (by omega))) ((va_up_ne _ _ (by omega)).trans hnp) h6 (ok_str h6 k1 ⟨by omega, by omega⟩)) ((va_up_ne _ _ (by omega)).trans ((va_up_ne _ _ (by omega)).trans hnp)) h6 (ok_any h6 (by omega))
      · exact mInv_up hF hnp h6 (ok_any h6 (by omega))
    · exact hF
theorem mInv_wr {r : Nat → Int32} {f : Nat → UInt32} {np d n p0 c0 : Nat} {v : Int32} (h : mInv r f) (hnp : r 89 = nI np) (h6 : np ≤ 6) (h1 : d < 4) (h2 : n < 3) (h3 : p0 < np) (h4 : c0 < 40) : mInv (nWrR r d n p0 c0 v) (nWrF r f d n p0 c0) := by
  have hF : mInv r (nWrF r f d n p0 c0) := by
    unfold nWrF
    refine mInv_fs h hnp h6 (fun j hj => ?_) (fun j hj => va_up_ne _ _ (by omega))
    by_cases e : j = 40 * (3 * p0 + n) + c0
    · rw [e, va_up_self]
      exact nWrS_fs _ _ _ _ _
    · rw [va_up_ne _ _ e]
      exact h.2.2.2.2.2.2.2.2.2.2.2.1 j hj
  unfold nWrR
  exact mInv_up (mInv_up hF hnp h6 (ok_val h6 ⟨by omega, by omega⟩)) ((va_up_ne _ _ (by omega)).trans hnp) h6 (ok_pos h6 (bnd_mono (mPl_bnd h h1 (by omega) (by omega) h4) (by decide)) ⟨by omega, by omega⟩)
theorem nClip_bnd (x : Int32) : bnd 40 (nClip x) := by
  unfold nClip
  split
  · exact ⟨by decide, by decide⟩
  · split
    · exact ⟨by decide, by decide⟩
    · rename_i a b
      rw [Int32.lt_iff_toInt_lt] at a b
      have e1 : (nI 40).toInt = 40 := by decide
      have e2 : (-40 : Int32).toInt = -40 := by decide
      exact ⟨by omega, by omega⟩
theorem mInv_rd {r : Nat → Int32} {f : Nat → UInt32} {np d p0 t : Nat} {q : Int32} (h : mInv r f) (hnp : r 89 = nI np) (h6 : np ≤ 6) (h1 : d < 4) (h3 : p0 < np) : mInv (nRdR r d p0 t q) f := by
  have hA : mInv (nRdA r d p0 t q) f := by
    unfold nRdA
    have k : (if q = -1 then 115 else 114) = 114 ∨ (if q = -1 then 115 else 114) = 115 := by split <;> decide
    refine mInv_up (mInv_up (mInv_up h hnp h6 (ok_any h6 (by omega))) ((va_up_ne _ _ (by omega)).trans hnp) h6 (ok_any h6 (by omega))) ((va_up_ne _ _ (by omega)).trans ((va_up_ne _ _ (by omega)).trans hnp)) h6 (ok_any h6 (by omega))
  unfold nRdR
  split
  · exact mInv_up hA ((nRdA_at (by decide)).trans hnp) h6 (ok_lrn h6 (nClip_bnd _) ⟨by omega, by omega⟩)
  · exact hA
theorem mInv_unm {r : Nat → Int32} {f : Nat → UInt32} {np d : Nat} (h : mInv r f) (hnp : r 89 = nI np) (h6 : np ≤ 6) (h1 : d < 4) : mInv (nUnm r d) f := by
  unfold nUnm
  exact mInv_up (mInv_pk h h1 (Or.inl rfl)) ((va_up_ne _ _ (by omega)).trans hnp) h6 (ok_cyl h6 ⟨0, by decide, rfl⟩ ⟨by omega, by omega⟩)
theorem mInv_str {r : Nat → Int32} {f : Nat → UInt32} {np d n : Nat} (h : mInv r f) (hnp : r 89 = nI np) (h6 : np ≤ 6) (h1 : d < 4) (h2 : n < 4) : mInv (nStr r d n) f := by
  have hA : mInv (va_up (va_up r (16 + (4 * d + n)) (nI 1)) (32 + (4 * d + n)) (nI 0)) f := mInv_up (mInv_up h hnp h6 (ok_str h6 (Or.inr rfl) ⟨by omega, by omega⟩)) ((va_up_ne _ _ (by omega)).trans hnp) h6 (ok_any h6 (by omega))
  have hn : (va_up (va_up r (16 + (4 * d + n)) (nI 1)) (32 + (4 * d + n)) (nI 0)) 89 = nI np := (va_up_ne _ _ (by omega)).trans ((va_up_ne _ _ (by omega)).trans hnp)
  unfold nStr
  split
  · exact mInv_up hA hn h6 (ok_srv h6 (Or.inl rfl) ⟨by omega, by omega⟩)
  · exact mInv_up hA hn h6 (ok_srv h6 (h.2.2.2.2.2.2.1 d h1) ⟨by omega, by omega⟩)
theorem mInv_mend {r : Nat → Int32} {f : Nat → UInt32} {np d n : Nat} (h : mInv r f) (hnp : r 89 = nI np) (h6 : np ≤ 6) (h1 : d < 4) (h2 : n < 4) : mInv (nMend r d n) f := by
  unfold nMend
  exact mInv_up (mInv_up (mInv_up h hnp h6 (ok_str h6 (Or.inl rfl) ⟨by omega, by omega⟩)) ((va_up_ne _ _ (by omega)).trans hnp) h6 (ok_off h6 ⟨by decide, by decide⟩ (by omega))) ((va_up_ne _ _ (by omega)).trans ((va_up_ne _ _ (by omega)).trans hnp)) h6 (ok_any h6 (by omega))
theorem nPolR_ne (r : Nat → Int32) (p0 : Nat) : ∀ k j, j < 96 + 3 * p0 ∨ 96 + 3 * p0 + k ≤ j → nPolR r p0 k j = r j := by
  intro k
  induction k with
  | zero => intro j _; rfl
  | succ k ih =>
    intro j h
    show va_up (nPolR r p0 k) (96 + 3 * p0 + k) (nI 0) j = _
    rw [va_up_ne _ _ (by omega)]
    exact ih j (by omega)
theorem nPolF_ne (r : Nat → Int32) (f : Nat → UInt32) (p0 : Nat) : ∀ k j, j < 120 * p0 ∨ 120 * p0 + 40 * k ≤ j → nPolF r f p0 k j = f j := by
  intro k
  induction k with
  | zero => intro j _; rfl
  | succ k ih =>
    intro j h
    unfold nPolF
    split
    · unfold nHlv
      rw [if_neg (by omega)]
      exact ih j (by omega)
    · exact ih j (by omega)
theorem mInv_pol {r : Nat → Int32} {f : Nat → UInt32} {np p0 : Nat} (h : mInv r f) (hnp : r 89 = nI np) (h6 : np ≤ 6) (h3 : p0 < np) : mInv (nPolR r p0 3) (nPolF r f p0 3) := by
  have hF : mInv r (nPolF r f p0 3) := mInv_fs h hnp h6 (nPolF_fs h.2.2.2.2.2.2.2.2.2.2.2.1 3) (fun j hj => nPolF_ne _ _ _ _ _ (by omega))
  have st : ∀ k, k ≤ 3 → mInv (nPolR r p0 k) (nPolF r f p0 3) := by
    intro k
    induction k with
    | zero => intro _; exact hF
    | succ k ih =>
      intro hk
      exact mInv_up (ih (by omega)) ((nPolR_ne _ _ _ _ (by omega)).trans hnp) h6 (ok_scr h6 (Or.inl rfl) ⟨by omega, by omega⟩)
  exact st 3 (by decide)
