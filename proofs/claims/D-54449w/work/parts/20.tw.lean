/-! THE REFERENCE'S WORLD: one object and its seven arrays; rows over it -/
/-- 1 if P, else 0 -/
noncomputable def bI (P : Prop) : Int32 := @ite _ P (Classical.propDecidable P) 1 0
theorem bI_t {P : Prop} (h : P) : bI P = 1 := by unfold bI; exact if_pos h
theorem bI_f {P : Prop} (h : ¬ P) : bI P = 0 := by unfold bI; exact if_neg h
theorem bI_iff {P Q : Prop} (h : P ↔ Q) : bI P = bI Q := by rw [propext h]
theorem bI_cases (P : Prop) : (P ∧ bI P = 1) ∨ (¬ P ∧ bI P = 0) := by
  by_cases h : P
  · exact Or.inl ⟨h, bI_t h⟩
  · exact Or.inr ⟨h, bI_f h⟩
theorem bI_1 {P : Prop} (h : bI P = 1) : P := Classical.byContradiction fun q => by rw [bI_f q] at h; exact absurd h (by decide)
theorem bI_0 {P : Prop} (h : bI P = 0) : ¬ P := fun q => by rw [bI_t q] at h; exact absurd h (by decide)
theorem bI_n0 {P : Prop} (h : ¬ bI P = 0) : P := Classical.byContradiction fun q => h (bI_f q)
theorem nZ_bI (P : Prop) : narrow .boolean (.int (bI P)) = .int (bI P) := by
  rcases bI_cases P with ⟨-, h⟩ | ⟨-, h⟩ <;> rw [h] <;> rfl
theorem fZ_bI (P : Prop) : fits .boolean (.int (bI P)) = true := by
  rcases bI_cases P with ⟨-, h⟩ | ⟨-, h⟩ <;> rw [h] <;> rfl
theorem nK_add (a b : Nat) : nI a + nI b = nI (a + b) := (Int32.ofNat_add a b).symm
theorem nK_mul (a b : Nat) : nI a * nI b = nI (a * b) := (Int32.ofNat_mul a b).symm
theorem nK_inj {a b : Nat} (ha : a < 2 ^ 31) (hb : b < 2 ^ 31) (h : nI a = nI b) : a = b := by
  have := congrArg Int32.toNatClampNeg h
  rwa [nI_nat ha, nI_nat hb] at this
abbrev mRm (k c n : Nat) : Room := { frames := k + 20, cells := c, slots := n, locals := 5000 + 60 * k }
theorem mRm_ok {j k c n c2 n2 maxL : Nat} (h : j < k) (hL : maxL ≤ 33) : (mRm j c n).frames + 1 ≤ (mRm k c2 n2).frames ∧ 8 + (maxL + 11) + (mRm j c n).locals ≤ (mRm k c2 n2).locals := by
  constructor
  · show j + 20 + 1 ≤ k + 20
    omega
  · show 8 + (maxL + 11) + (5000 + 60 * j) ≤ 5000 + 60 * k
    omega
abbrev pPre (M0 : mM) : mM → Prop := fun M => M = M0
abbrev pPost (M0 : mM) (v : Option Value) : mM → Option Value → mM → Prop := fun _ ρ M' => ρ = v ∧ M' = M0
abbrev tH : Type := (Nat → Int32) × (Nat → UInt32) × (Nat → Int32) × (Nat → UInt32)
def twF (ad : Nat → Nat) (g : Nat → Int32) : List Value := [.ref (ad 1), .ref (ad 2), .ref (ad 3), .ref (ad 4), .int (g 4), .ref (ad 5), .ref (ad 6), .int (g 7), .ref (ad 7), .int (g 9), .int (g 10), .int (g 11), .int (g 12), .int (g 13), .int (g 14), .int (g 15), .int (g 16)]
def tAd (ad : Nat → Nat) : Prop := ∀ i j, i < 8 → j < 8 → ad i = ad j → i = j
def tM (G : mG) (ad : Nat → Nat) (g r : Nat → Int32) (f : Nat → UInt32) (h : tH) (b : Nat → Int32) (M0 : mM) : mM := fun q =>
  if q = ad 0 then some (eO 5 (twF ad g)) else if q = ad 1 then some (eI (G.2.1 0) 1566 r) else if q = ad 2 then some (eF (G.2.1 1) 720 f) else if q = ad 3 then some (eI (G.2.1 0) 7830 h.1) else if q = ad 4 then some (eF (G.2.1 1) 3600 h.2.1) else if q = ad 5 then some (eI (G.2.1 0) 1566 h.2.2.1) else if q = ad 6 then some (eF (G.2.1 1) 720 h.2.2.2) else if q = ad 7 then some (eI (G.2.1 0) 60 b) else M0 q
section TW0
variable {G : mG} {ad : Nat → Nat} {g r : Nat → Int32} {f : Nat → UInt32} {h : tH} {b : Nat → Int32} {M0 : mM}
theorem tM_0 (hd : tAd ad) : tM G ad g r f h b M0 (ad 0) = some (eO 5 (twF ad g)) := by
  unfold tM
  rw [if_pos rfl]
theorem tM_1 (hd : tAd ad) : tM G ad g r f h b M0 (ad 1) = some (eI (G.2.1 0) 1566 r) := by
  unfold tM
  rw [if_neg (fun q => absurd (hd 1 0 (by decide) (by decide) q) (by decide)), if_pos rfl]
theorem tM_2 (hd : tAd ad) : tM G ad g r f h b M0 (ad 2) = some (eF (G.2.1 1) 720 f) := by
  unfold tM
  rw [if_neg (fun q => absurd (hd 2 0 (by decide) (by decide) q) (by decide)), if_neg (fun q => absurd (hd 2 1 (by decide) (by decide) q) (by decide)), if_pos rfl]
theorem tM_3 (hd : tAd ad) : tM G ad g r f h b M0 (ad 3) = some (eI (G.2.1 0) 7830 h.1) := by
  unfold tM
  rw [if_neg (fun q => absurd (hd 3 0 (by decide) (by decide) q) (by decide)), if_neg (fun q => absurd (hd 3 1 (by decide) (by decide) q) (by decide)), if_neg (fun q => absurd (hd 3 2 (by decide) (by decide) q) (by decide)), if_pos rfl]
theorem tM_4 (hd : tAd ad) : tM G ad g r f h b M0 (ad 4) = some (eF (G.2.1 1) 3600 h.2.1) := by
  unfold tM
  rw [if_neg (fun q => absurd (hd 4 0 (by decide) (by decide) q) (by decide)), if_neg (fun q => absurd (hd 4 1 (by decide) (by decide) q) (by decide)), if_neg (fun q => absurd (hd 4 2 (by decide) (by decide) q) (by decide)), if_neg (fun q => absurd (hd 4 3 (by decide) (by decide) q) (by decide)), if_pos rfl]
theorem tM_5 (hd : tAd ad) : tM G ad g r f h b M0 (ad 5) = some (eI (G.2.1 0) 1566 h.2.2.1) := by
  unfold tM
  rw [if_neg (fun q => absurd (hd 5 0 (by decide) (by decide) q) (by decide)), if_neg (fun q => absurd (hd 5 1 (by decide) (by decide) q) (by decide)), if_neg (fun q => absurd (hd 5 2 (by decide) (by decide) q) (by decide)), if_neg (fun q => absurd (hd 5 3 (by decide) (by decide) q) (by decide)), if_neg (fun q => absurd (hd 5 4 (by decide) (by decide) q) (by decide)), if_pos rfl]
theorem tM_6 (hd : tAd ad) : tM G ad g r f h b M0 (ad 6) = some (eF (G.2.1 1) 720 h.2.2.2) := by
  unfold tM
  rw [if_neg (fun q => absurd (hd 6 0 (by decide) (by decide) q) (by decide)), if_neg (fun q => absurd (hd 6 1 (by decide) (by decide) q) (by decide)), if_neg (fun q => absurd (hd 6 2 (by decide) (by decide) q) (by decide)), if_neg (fun q => absurd (hd 6 3 (by decide) (by decide) q) (by decide)), if_neg (fun q => absurd (hd 6 4 (by decide) (by decide) q) (by decide)), if_neg (fun q => absurd (hd 6 5 (by decide) (by decide) q) (by decide)), if_pos rfl]
theorem tM_7 (hd : tAd ad) : tM G ad g r f h b M0 (ad 7) = some (eI (G.2.1 0) 60 b) := by
  unfold tM
  rw [if_neg (fun q => absurd (hd 7 0 (by decide) (by decide) q) (by decide)), if_neg (fun q => absurd (hd 7 1 (by decide) (by decide) q) (by decide)), if_neg (fun q => absurd (hd 7 2 (by decide) (by decide) q) (by decide)), if_neg (fun q => absurd (hd 7 3 (by decide) (by decide) q) (by decide)), if_neg (fun q => absurd (hd 7 4 (by decide) (by decide) q) (by decide)), if_neg (fun q => absurd (hd 7 5 (by decide) (by decide) q) (by decide)), if_neg (fun q => absurd (hd 7 6 (by decide) (by decide) q) (by decide)), if_pos rfl]
theorem tM_out {q : Nat} (hq : ∀ i, i < 8 → q ≠ ad i) : tM G ad g r f h b M0 q = M0 q := by
  unfold tM
  rw [if_neg (hq 0 (by decide)), if_neg (hq 1 (by decide)), if_neg (hq 2 (by decide)), if_neg (hq 3 (by decide)), if_neg (hq 4 (by decide)), if_neg (hq 5 (by decide)), if_neg (hq 6 (by decide)), if_neg (hq 7 (by decide))]
theorem tM_up0 (hd : tAd ad) (g' : Nat → Int32) : mup (tM G ad g r f h b M0) (ad 0) (eO 5 (twF ad g')) = tM G ad g' r f h b M0 := by
  funext q
  by_cases hq : q = ad 0
  · rw [hq, mup_self, tM_0 hd]
  · rw [mup_ne hq]
    unfold tM
    rw [if_neg hq, if_neg hq]
theorem tM_up1 (hd : tAd ad) (r' : Nat → Int32) : mup (tM G ad g r f h b M0) (ad 1) (eI (G.2.1 0) 1566 r') = tM G ad g r' f h b M0 := by
  funext q
  by_cases hq : q = ad 1
  · rw [hq, mup_self, tM_1 hd]
  · rw [mup_ne hq]
    unfold tM
    simp only [hq, if_false]
theorem tM_up2 (hd : tAd ad) (f' : Nat → UInt32) : mup (tM G ad g r f h b M0) (ad 2) (eF (G.2.1 1) 720 f') = tM G ad g r f' h b M0 := by
  funext q
  by_cases hq : q = ad 2
  · rw [hq, mup_self, tM_2 hd]
  · rw [mup_ne hq]
    unfold tM
    simp only [hq, if_false]
theorem tM_up3 (hd : tAd ad) (s' : Nat → Int32) : mup (tM G ad g r f h b M0) (ad 3) (eI (G.2.1 0) 7830 s') = tM G ad g r f (s', h.2) b M0 := by
  funext q
  by_cases hq : q = ad 3
  · rw [hq, mup_self, tM_3 hd]
  · rw [mup_ne hq]
    unfold tM
    simp only [hq, if_false]
theorem tM_up4 (hd : tAd ad) (s' : Nat → UInt32) : mup (tM G ad g r f h b M0) (ad 4) (eF (G.2.1 1) 3600 s') = tM G ad g r f (h.1, s', h.2.2) b M0 := by
  funext q
  by_cases hq : q = ad 4
  · rw [hq, mup_self, tM_4 hd]
  · rw [mup_ne hq]
    unfold tM
    simp only [hq, if_false]
theorem tM_up5 (hd : tAd ad) (s' : Nat → Int32) : mup (tM G ad g r f h b M0) (ad 5) (eI (G.2.1 0) 1566 s') = tM G ad g r f (h.1, h.2.1, s', h.2.2.2) b M0 := by
  funext q
  by_cases hq : q = ad 5
  · rw [hq, mup_self, tM_5 hd]
  · rw [mup_ne hq]
    unfold tM
    simp only [hq, if_false]
theorem tM_up6 (hd : tAd ad) (s' : Nat → UInt32) : mup (tM G ad g r f h b M0) (ad 6) (eF (G.2.1 1) 720 s') = tM G ad g r f (h.1, h.2.1, h.2.2.1, s') b M0 := by
  funext q
  by_cases hq : q = ad 6
  · rw [hq, mup_self, tM_6 hd]
  · rw [mup_ne hq]
    unfold tM
    simp only [hq, if_false]
theorem tM_up7 (hd : tAd ad) (b' : Nat → Int32) : mup (tM G ad g r f h b M0) (ad 7) (eI (G.2.1 0) 60 b') = tM G ad g r f h b' M0 := by
  funext q
  by_cases hq : q = ad 7
  · rw [hq, mup_self, tM_7 hd]
  · rw [mup_ne hq]
    unfold tM
    simp only [hq, if_false]
theorem tM_tM {g2 r2 : Nat → Int32} {f2 : Nat → UInt32} {h2 : tH} {b2 : Nat → Int32} (hd : tAd ad) : tM G ad g2 r2 f2 h2 b2 (tM G ad g r f h b M0) = tM G ad g2 r2 f2 h2 b2 M0 := by
  funext q
  by_cases hq : ∀ i, i < 8 → q ≠ ad i
  · rw [tM_out hq, tM_out hq, tM_out hq]
  · have : ∃ i, i < 8 ∧ q = ad i := Classical.byContradiction fun n => hq (fun i hi e => n ⟨i, hi, e⟩)
    obtain ⟨i, hi, rfl⟩ := this
    have : i = 0 ∨ i = 1 ∨ i = 2 ∨ i = 3 ∨ i = 4 ∨ i = 5 ∨ i = 6 ∨ i = 7 := by omega
    rcases this with rfl | rfl | rfl | rfl | rfl | rfl | rfl | rfl
    · rw [tM_0 hd, tM_0 hd]
    · rw [tM_1 hd, tM_1 hd]
    · rw [tM_2 hd, tM_2 hd]
    · rw [tM_3 hd, tM_3 hd]
    · rw [tM_4 hd, tM_4 hd]
    · rw [tM_5 hd, tM_5 hd]
    · rw [tM_6 hd, tM_6 hd]
    · rw [tM_7 hd, tM_7 hd]
end TW0
theorem tw_s4 (ad : Nat → Nat) (g : Nat → Int32) (x : Int32) : (twF ad g).set 4 (.int x) = twF ad (va_up g 4 x) := rfl
theorem tw_s7 (ad : Nat → Nat) (g : Nat → Int32) (x : Int32) : (twF ad g).set 7 (.int x) = twF ad (va_up g 7 x) := rfl
theorem tw_s9 (ad : Nat → Nat) (g : Nat → Int32) (x : Int32) : (twF ad g).set 9 (.int x) = twF ad (va_up g 9 x) := rfl
theorem tw_s10 (ad : Nat → Nat) (g : Nat → Int32) (x : Int32) : (twF ad g).set 10 (.int x) = twF ad (va_up g 10 x) := rfl
theorem tw_s11 (ad : Nat → Nat) (g : Nat → Int32) (x : Int32) : (twF ad g).set 11 (.int x) = twF ad (va_up g 11 x) := rfl
theorem tw_s12 (ad : Nat → Nat) (g : Nat → Int32) (x : Int32) : (twF ad g).set 12 (.int x) = twF ad (va_up g 12 x) := rfl
theorem tw_s13 (ad : Nat → Nat) (g : Nat → Int32) (x : Int32) : (twF ad g).set 13 (.int x) = twF ad (va_up g 13 x) := rfl
theorem tw_s14 (ad : Nat → Nat) (g : Nat → Int32) (x : Int32) : (twF ad g).set 14 (.int x) = twF ad (va_up g 14 x) := rfl
theorem tw_s15 (ad : Nat → Nat) (g : Nat → Int32) (x : Int32) : (twF ad g).set 15 (.int x) = twF ad (va_up g 15 x) := rfl
theorem tw_s16 (ad : Nat → Nat) (g : Nat → Int32) (x : Int32) : (twF ad g).set 16 (.int x) = twF ad (va_up g 16 x) := rfl
section TW1
variable {p : Program} {l : Launch} {e : Env} {R : Room} {s : State} {m : MethodId} {args : Array Value} {below : List Frame} {meth : Method} {c : Code} {H : Heap} {locs : List Loc} {cells slots : Nat} {Q : State → Prop}
variable {cc : ByteArray} {pc : Nat} {ls : Array Slot} {rest st : List Value} {G : mG} {A : Nat → Prop} {nL : Nat} {own : String} {ret0 : Option FieldType}
variable {ad : Nat → Nat} {g r : Nat → Int32} {f : Nat → UInt32} {h : tH} {b : Nat → Int32} {M0 : mM}
theorem tr_get (F : mFx p m c cc nL s args RX7 meth ret0 G A) (hd : tAd ad) (hM : mWd G A s.heap (tM G ad g r f h b M0) H locs) {index : Nat} (k : Nat) (hk : k < 17) (hlink : Cond.fieldLink RX7 index (TX7 k).1 (TX7 k).2.1 (TX7 k).2.2.1 ∈ lw_all) {v : Value} (hv : (twF ad g)[k]? = some v) (hdg : decode cc pc = .ok (.getfield index, 3))
    (kk : W p l e R s m args below meth c H locs cells slots Q (F0 m (pc + 3) ls (v :: rest))) : W p l e R s m args below meth c H locs cells slots Q (F0 m pc ls (.ref (ad 0) :: rest)) :=
  mr_get F.1.1 F.1.2.1 F.1.2.2.2.2 in_X7 F.1.2.2.2.1 F.2.1 hM (tM_0 hd) rfl k hk hlink (fun x h => h) hv hdg kk
theorem tr_put (F : mFx p m c cc nL s args RX7 meth ret0 G A) (hd : tAd ad) (hM : mWd G A s.heap (tM G ad g r f h b M0) H locs) {index : Nat} (k : Nat) (hk : k < 17) (hlink : Cond.fieldLink RX7 index (TX7 k).1 (TX7 k).2.1 (TX7 k).2.2.1 ∈ lw_all) {x : Int32} (hfin : (TX7 k).2.2.2 = false) (hn : narrow (tyX7 k) (.int x) = .int x) (hfit : fits (tyX7 k) (.int x) = true) (hs : (twF ad g).set k (.int x) = twF ad (va_up g k x)) (hdg : decode cc pc = .ok (.putfield index, 3))
    (kk : ∀ (H1 : Heap) (locs1 : List Loc), mWd G A s.heap (tM G ad (va_up g k x) r f h b M0) H1 locs1 → W p l e R s m args below meth c H1 locs1 cells slots Q (F0 m (pc + 3) ls rest)) : W p l e R s m args below meth c H locs cells slots Q (F0 m pc ls (.int x :: .ref (ad 0) :: rest)) := by
  refine mr_put F.1.1 F.1.2.1 F.1.2.2.2.2 in_X7 tyX7 tyX7_ok nmX7 F.1.2.2.2.1 F.2.1 hM (tM_0 hd) rfl k hk hlink (fun x h => h) hfin hn hfit (show k < 17 from hk) hdg fun H1 locs1 h1 => kk H1 locs1 ?_
  rw [hs, tM_up0 hd] at h1
  exact h1
theorem tr_ld1 (F : mFx p m c cc nL s args own meth ret0 G A) (hd : tAd ad) (hM : mWd G A s.heap (tM G ad g r f h b M0) H locs) {k : Nat} (hk : k < 1566) {v : Int32} (hv : r k = v) (hdg : decode cc pc = .ok (.iaload, 1))
    (kk : W p l e R s m args below meth c H locs cells slots Q (F0 m (pc + 1) ls (.int v :: rest))) : W p l e R s m args below meth c H locs cells slots Q (F0 m pc ls (.int (nI k) :: .ref (ad 1) :: rest)) := by
  subst hv
  exact mr_iald F.1.1 F.1.2.1 F.2.1 hM (tM_1 hd) hk (by omega) hdg kk
theorem tr_st1 (F : mFx p m c cc nL s args own meth ret0 G A) (hd : tAd ad) (hM : mWd G A s.heap (tM G ad g r f h b M0) H locs) {k : Nat} {x : Int32} (hk : k < 1566) (hdg : decode cc pc = .ok (.iastore, 1))
    (kk : ∀ (H1 : Heap) (locs1 : List Loc), mWd G A s.heap (tM G ad g (va_up r k x) f h b M0) H1 locs1 → W p l e R s m args below meth c H1 locs1 cells slots Q (F0 m (pc + 1) ls rest)) : W p l e R s m args below meth c H locs cells slots Q (F0 m pc ls (.int x :: .int (nI k) :: .ref (ad 1) :: rest)) := by
  refine mr_iast F.1.1 F.1.2.1 F.2.1 hM (tM_1 hd) hk (by omega) hdg fun H1 locs1 h1 => kk H1 locs1 ?_
  rw [tM_up1 hd] at h1
  exact h1
theorem tr_ld2 (F : mFx p m c cc nL s args own meth ret0 G A) (hd : tAd ad) (hM : mWd G A s.heap (tM G ad g r f h b M0) H locs) {k : Nat} (hk : k < 720) {v : UInt32} (hv : f k = v) (hdg : decode cc pc = .ok (.faload, 1))
    (kk : W p l e R s m args below meth c H locs cells slots Q (F0 m (pc + 1) ls (.float v :: rest))) : W p l e R s m args below meth c H locs cells slots Q (F0 m pc ls (.int (nI k) :: .ref (ad 2) :: rest)) := by
  subst hv
  exact mr_fald F.1.1 F.1.2.1 F.2.1 hM (tM_2 hd) hk (by omega) hdg kk
theorem tr_st2 (F : mFx p m c cc nL s args own meth ret0 G A) (hd : tAd ad) (hM : mWd G A s.heap (tM G ad g r f h b M0) H locs) {k : Nat} {x : UInt32} (hk : k < 720) (hdg : decode cc pc = .ok (.fastore, 1))
    (kk : ∀ (H1 : Heap) (locs1 : List Loc), mWd G A s.heap (tM G ad g r (va_up f k x) h b M0) H1 locs1 → W p l e R s m args below meth c H1 locs1 cells slots Q (F0 m (pc + 1) ls rest)) : W p l e R s m args below meth c H locs cells slots Q (F0 m pc ls (.float x :: .int (nI k) :: .ref (ad 2) :: rest)) := by
  refine mr_fast F.1.1 F.1.2.1 F.2.1 hM (tM_2 hd) hk (by omega) hdg fun H1 locs1 h1 => kk H1 locs1 ?_
  rw [tM_up2 hd] at h1
  exact h1
theorem tr_ld3 (F : mFx p m c cc nL s args own meth ret0 G A) (hd : tAd ad) (hM : mWd G A s.heap (tM G ad g r f h b M0) H locs) {k : Nat} (hk : k < 7830) {v : Int32} (hv : h.1 k = v) (hdg : decode cc pc = .ok (.iaload, 1))
    (kk : W p l e R s m args below meth c H locs cells slots Q (F0 m (pc + 1) ls (.int v :: rest))) : W p l e R s m args below meth c H locs cells slots Q (F0 m pc ls (.int (nI k) :: .ref (ad 3) :: rest)) := by
  subst hv
  exact mr_iald F.1.1 F.1.2.1 F.2.1 hM (tM_3 hd) hk (by omega) hdg kk
theorem tr_st3 (F : mFx p m c cc nL s args own meth ret0 G A) (hd : tAd ad) (hM : mWd G A s.heap (tM G ad g r f h b M0) H locs) {k : Nat} {x : Int32} (hk : k < 7830) (hdg : decode cc pc = .ok (.iastore, 1))
    (kk : ∀ (H1 : Heap) (locs1 : List Loc), mWd G A s.heap (tM G ad g r f (va_up (h.1) k x, h.2) b M0) H1 locs1 → W p l e R s m args below meth c H1 locs1 cells slots Q (F0 m (pc + 1) ls rest)) : W p l e R s m args below meth c H locs cells slots Q (F0 m pc ls (.int x :: .int (nI k) :: .ref (ad 3) :: rest)) := by
  refine mr_iast F.1.1 F.1.2.1 F.2.1 hM (tM_3 hd) hk (by omega) hdg fun H1 locs1 h1 => kk H1 locs1 ?_
  rw [tM_up3 hd] at h1
  exact h1
theorem tr_ld4 (F : mFx p m c cc nL s args own meth ret0 G A) (hd : tAd ad) (hM : mWd G A s.heap (tM G ad g r f h b M0) H locs) {k : Nat} (hk : k < 3600) {v : UInt32} (hv : h.2.1 k = v) (hdg : decode cc pc = .ok (.faload, 1))
    (kk : W p l e R s m args below meth c H locs cells slots Q (F0 m (pc + 1) ls (.float v :: rest))) : W p l e R s m args below meth c H locs cells slots Q (F0 m pc ls (.int (nI k) :: .ref (ad 4) :: rest)) := by
  subst hv
  exact mr_fald F.1.1 F.1.2.1 F.2.1 hM (tM_4 hd) hk (by omega) hdg kk
theorem tr_st4 (F : mFx p m c cc nL s args own meth ret0 G A) (hd : tAd ad) (hM : mWd G A s.heap (tM G ad g r f h b M0) H locs) {k : Nat} {x : UInt32} (hk : k < 3600) (hdg : decode cc pc = .ok (.fastore, 1))
    (kk : ∀ (H1 : Heap) (locs1 : List Loc), mWd G A s.heap (tM G ad g r f (h.1, va_up (h.2.1) k x, h.2.2) b M0) H1 locs1 → W p l e R s m args below meth c H1 locs1 cells slots Q (F0 m (pc + 1) ls rest)) : W p l e R s m args below meth c H locs cells slots Q (F0 m pc ls (.float x :: .int (nI k) :: .ref (ad 4) :: rest)) := by
  refine mr_fast F.1.1 F.1.2.1 F.2.1 hM (tM_4 hd) hk (by omega) hdg fun H1 locs1 h1 => kk H1 locs1 ?_
  rw [tM_up4 hd] at h1
  exact h1
theorem tr_ld5 (F : mFx p m c cc nL s args own meth ret0 G A) (hd : tAd ad) (hM : mWd G A s.heap (tM G ad g r f h b M0) H locs) {k : Nat} (hk : k < 1566) {v : Int32} (hv : h.2.2.1 k = v) (hdg : decode cc pc = .ok (.iaload, 1))
    (kk : W p l e R s m args below meth c H locs cells slots Q (F0 m (pc + 1) ls (.int v :: rest))) : W p l e R s m args below meth c H locs cells slots Q (F0 m pc ls (.int (nI k) :: .ref (ad 5) :: rest)) := by
  subst hv
  exact mr_iald F.1.1 F.1.2.1 F.2.1 hM (tM_5 hd) hk (by omega) hdg kk
theorem tr_st5 (F : mFx p m c cc nL s args own meth ret0 G A) (hd : tAd ad) (hM : mWd G A s.heap (tM G ad g r f h b M0) H locs) {k : Nat} {x : Int32} (hk : k < 1566) (hdg : decode cc pc = .ok (.iastore, 1))
    (kk : ∀ (H1 : Heap) (locs1 : List Loc), mWd G A s.heap (tM G ad g r f (h.1, h.2.1, va_up (h.2.2.1) k x, h.2.2.2) b M0) H1 locs1 → W p l e R s m args below meth c H1 locs1 cells slots Q (F0 m (pc + 1) ls rest)) : W p l e R s m args below meth c H locs cells slots Q (F0 m pc ls (.int x :: .int (nI k) :: .ref (ad 5) :: rest)) := by
  refine mr_iast F.1.1 F.1.2.1 F.2.1 hM (tM_5 hd) hk (by omega) hdg fun H1 locs1 h1 => kk H1 locs1 ?_
  rw [tM_up5 hd] at h1
  exact h1
theorem tr_ld6 (F : mFx p m c cc nL s args own meth ret0 G A) (hd : tAd ad) (hM : mWd G A s.heap (tM G ad g r f h b M0) H locs) {k : Nat} (hk : k < 720) {v : UInt32} (hv : h.2.2.2 k = v) (hdg : decode cc pc = .ok (.faload, 1))
    (kk : W p l e R s m args below meth c H locs cells slots Q (F0 m (pc + 1) ls (.float v :: rest))) : W p l e R s m args below meth c H locs cells slots Q (F0 m pc ls (.int (nI k) :: .ref (ad 6) :: rest)) := by
  subst hv
  exact mr_fald F.1.1 F.1.2.1 F.2.1 hM (tM_6 hd) hk (by omega) hdg kk
theorem tr_st6 (F : mFx p m c cc nL s args own meth ret0 G A) (hd : tAd ad) (hM : mWd G A s.heap (tM G ad g r f h b M0) H locs) {k : Nat} {x : UInt32} (hk : k < 720) (hdg : decode cc pc = .ok (.fastore, 1))
    (kk : ∀ (H1 : Heap) (locs1 : List Loc), mWd G A s.heap (tM G ad g r f (h.1, h.2.1, h.2.2.1, va_up (h.2.2.2) k x) b M0) H1 locs1 → W p l e R s m args below meth c H1 locs1 cells slots Q (F0 m (pc + 1) ls rest)) : W p l e R s m args below meth c H locs cells slots Q (F0 m pc ls (.float x :: .int (nI k) :: .ref (ad 6) :: rest)) := by
  refine mr_fast F.1.1 F.1.2.1 F.2.1 hM (tM_6 hd) hk (by omega) hdg fun H1 locs1 h1 => kk H1 locs1 ?_
  rw [tM_up6 hd] at h1
  exact h1
theorem tr_ld7 (F : mFx p m c cc nL s args own meth ret0 G A) (hd : tAd ad) (hM : mWd G A s.heap (tM G ad g r f h b M0) H locs) {k : Nat} (hk : k < 60) {v : Int32} (hv : b k = v) (hdg : decode cc pc = .ok (.iaload, 1))
    (kk : W p l e R s m args below meth c H locs cells slots Q (F0 m (pc + 1) ls (.int v :: rest))) : W p l e R s m args below meth c H locs cells slots Q (F0 m pc ls (.int (nI k) :: .ref (ad 7) :: rest)) := by
  subst hv
  exact mr_iald F.1.1 F.1.2.1 F.2.1 hM (tM_7 hd) hk (by omega) hdg kk
theorem tr_st7 (F : mFx p m c cc nL s args own meth ret0 G A) (hd : tAd ad) (hM : mWd G A s.heap (tM G ad g r f h b M0) H locs) {k : Nat} {x : Int32} (hk : k < 60) (hdg : decode cc pc = .ok (.iastore, 1))
    (kk : ∀ (H1 : Heap) (locs1 : List Loc), mWd G A s.heap (tM G ad g r f h (va_up b k x) M0) H1 locs1 → W p l e R s m args below meth c H1 locs1 cells slots Q (F0 m (pc + 1) ls rest)) : W p l e R s m args below meth c H locs cells slots Q (F0 m pc ls (.int x :: .int (nI k) :: .ref (ad 7) :: rest)) := by
  refine mr_iast F.1.1 F.1.2.1 F.2.1 hM (tM_7 hd) hk (by omega) hdg fun H1 locs1 h1 => kk H1 locs1 ?_
  rw [tM_up7 hd] at h1
  exact h1
theorem mr_iconst (F : mFx p m c cc nL s args own meth ret0 G A) {n : Int} (v : Nat) (hdg : decode cc pc = .ok (.iconst n, 1)) (hv : Int32.ofInt n = nI v) (k : W p l e R s m args below meth c H locs cells slots Q (F0 m (pc + 1) ls (.int (nI v) :: rest))) : W p l e R s m args below meth c H locs cells slots Q (F0 m pc ls rest) := lv_iconst F.1.1 F.1.2.1 hdg hv k
theorem mr_bipush (F : mFx p m c cc nL s args own meth ret0 G A) {n : Int} (v : Nat) (hdg : decode cc pc = .ok (.bipush n, 2)) (hv : (Int8.ofInt n).toInt32 = nI v) (k : W p l e R s m args below meth c H locs cells slots Q (F0 m (pc + 2) ls (.int (nI v) :: rest))) : W p l e R s m args below meth c H locs cells slots Q (F0 m pc ls rest) := lv_bipush F.1.1 F.1.2.1 hdg hv k
theorem mr_sipush (F : mFx p m c cc nL s args own meth ret0 G A) {n : Int} (v : Nat) (hdg : decode cc pc = .ok (.sipush n, 3)) (hv : (Int16.ofInt n).toInt32 = nI v) (k : W p l e R s m args below meth c H locs cells slots Q (F0 m (pc + 3) ls (.int (nI v) :: rest))) : W p l e R s m args below meth c H locs cells slots Q (F0 m pc ls rest) := lv_sipush F.1.1 F.1.2.1 hdg hv k
theorem mr_iaddN (F : mFx p m c cc nL s args own meth ret0 G A) {a b : Nat} (hdg : decode cc pc = .ok (.iadd, 1)) (k : W p l e R s m args below meth c H locs cells slots Q (F0 m (pc + 1) ls (.int (nI (a + b)) :: rest))) : W p l e R s m args below meth c H locs cells slots Q (F0 m pc ls (.int (nI b) :: .int (nI a) :: rest)) := by
  refine lv_iadd F.1.1 F.1.2.1 hdg ?_
  rw [nK_add]
  exact k
theorem mr_imulN (F : mFx p m c cc nL s args own meth ret0 G A) {a b : Nat} (hdg : decode cc pc = .ok (.imul, 1)) (k : W p l e R s m args below meth c H locs cells slots Q (F0 m (pc + 1) ls (.int (nI (a * b)) :: rest))) : W p l e R s m args below meth c H locs cells slots Q (F0 m pc ls (.int (nI b) :: .int (nI a) :: rest)) := by
  refine lv_imul F.1.1 F.1.2.1 hdg ?_
  rw [nK_mul]
  exact k
theorem mr_isubN (F : mFx p m c cc nL s args own meth ret0 G A) {a b : Nat} (hab : b ≤ a) (hdg : decode cc pc = .ok (.isub, 1)) (k : W p l e R s m args below meth c H locs cells slots Q (F0 m (pc + 1) ls (.int (nI (a - b)) :: rest))) : W p l e R s m args below meth c H locs cells slots Q (F0 m pc ls (.int (nI b) :: .int (nI a) :: rest)) := by
  refine lv_isub F.1.1 F.1.2.1 hdg ?_
  rw [show nI a - nI b = nI (a - b) from by
    have h1 := nK_add (a - b) b
    rw [Nat.sub_add_cancel hab] at h1
    rw [← h1]
    grind]
  exact k
theorem mr_ifeqB (F : mFx p m c cc nL s args own meth ret0 G A) {B : Prop} {off : Int} {tgt : Nat} (hdg : decode cc pc = .ok (.ifCond .eq off, 3)) (ht : (pc : Int) + off = (tgt : Int)) (kt : ¬ B → W p l e R s m args below meth c H locs cells slots Q (F0 m tgt ls rest)) (kf : B → W p l e R s m args below meth c H locs cells slots Q (F0 m (pc + 3) ls rest)) : W p l e R s m args below meth c H locs cells slots Q (F0 m pc ls (.int (bI B) :: rest)) :=
  lv_if_eq F.1.1 F.1.2.1 hdg ht (fun h => kt (bI_0 h)) (fun h => kf (bI_n0 h))
theorem mr_ifneB (F : mFx p m c cc nL s args own meth ret0 G A) {B : Prop} {off : Int} {tgt : Nat} (hdg : decode cc pc = .ok (.ifCond .ne off, 3)) (ht : (pc : Int) + off = (tgt : Int)) (kt : B → W p l e R s m args below meth c H locs cells slots Q (F0 m tgt ls rest)) (kf : ¬ B → W p l e R s m args below meth c H locs cells slots Q (F0 m (pc + 3) ls rest)) : W p l e R s m args below meth c H locs cells slots Q (F0 m pc ls (.int (bI B) :: rest)) :=
  lv_if_ne F.1.1 F.1.2.1 hdg ht (fun h => kt (bI_n0 h)) (fun h => kf (bI_0 h))
/-! calls whose answer and end are functions of the start -/
variable {y : MethodName} {bytes : ByteArray} {maxL n index : Nat} {ret : Option FieldType} {rm : Room} {As : List Value} {o ci : Nat} {C : String} {ws : List Cond} {M M1 : mM} {Pr : mM → Prop} {v : Value}
theorem mc_Va (F : mFx p m c cc nL s args own meth ret0 G A) (hM : mWd G A s.heap M H locs) (hC : mMet l y ws rm (.ref o :: As) G Pr (pPost M1 (some v))) (cw : CallW R s args own C index y bytes maxL ret ws rm rm.cells rm.slots n) {fs : List Value} (hb : M o = some (eO ci fs)) {q : vw_C} (hc : vwCl[ci]? = some q) (hq : q.1 = C) (hpre : Pr M) (hn : As.length = n) (hsize : ls.size = nL) (hst : st = As.reverse ++ .ref o :: rest) (hW : (rest.map fun v => v.category).sum ≤ 8) (hdg : decode cc pc = .ok (.invokevirtual index, 3)) (hf : cells + rm.cells ≤ R.cells ∧ slots + rm.slots ≤ R.slots)
    (kk : ∀ (H1 : Heap) (locs1 : List Loc), mWd G A s.heap M1 H1 locs1 → W p l e R s m args below meth c H1 locs1 (cells + rm.cells) (slots + rm.slots) Q (F0 m (pc + 3) ls (v :: rest))) : W p l e R s m args below meth c H locs cells slots Q (F0 m pc ls st) := by
  refine mc_V F hM hC cw hpre hb hc hq hn hsize hst hW hdg hf fun r M2 H1 locs1 hP h1 _ => ?_
  obtain ⟨rfl, rfl⟩ := hP
  exact kk H1 locs1 h1
theorem mc_Vv (F : mFx p m c cc nL s args own meth ret0 G A) (hM : mWd G A s.heap M H locs) (hC : mMet l y ws rm (.ref o :: As) G Pr (pPost M1 (none))) (cw : CallW R s args own C index y bytes maxL ret ws rm rm.cells rm.slots n) {fs : List Value} (hb : M o = some (eO ci fs)) {q : vw_C} (hc : vwCl[ci]? = some q) (hq : q.1 = C) (hpre : Pr M) (hn : As.length = n) (hsize : ls.size = nL) (hst : st = As.reverse ++ .ref o :: rest) (hW : (rest.map fun v => v.category).sum ≤ 8) (hdg : decode cc pc = .ok (.invokevirtual index, 3)) (hf : cells + rm.cells ≤ R.cells ∧ slots + rm.slots ≤ R.slots)
    (kk : ∀ (H1 : Heap) (locs1 : List Loc), mWd G A s.heap M1 H1 locs1 → W p l e R s m args below meth c H1 locs1 (cells + rm.cells) (slots + rm.slots) Q (F0 m (pc + 3) ls (rest))) : W p l e R s m args below meth c H locs cells slots Q (F0 m pc ls st) := by
  refine mc_V F hM hC cw hpre hb hc hq hn hsize hst hW hdg hf fun r M2 H1 locs1 hP h1 _ => ?_
  obtain ⟨rfl, rfl⟩ := hP
  exact kk H1 locs1 h1
theorem mc_Sa (F : mFx p m c cc nL s args own meth ret0 G A) (hM : mWd G A s.heap M H locs) (hC : mMet l y ws rm (As) G Pr (pPost M1 (some v))) (cw : CallB R s args own index y bytes maxL ret ws rm rm.cells rm.slots n ∧ (Cond.static y).before args s = true) (hpre : Pr M) (hn : As.length = n) (hsize : ls.size = nL) (hst : st = As.reverse ++ rest) (hW : (rest.map fun v => v.category).sum ≤ 8) (hdg : decode cc pc = .ok (.invokestatic index, 3)) (hf : cells + rm.cells ≤ R.cells ∧ slots + rm.slots ≤ R.slots)
    (kk : ∀ (H1 : Heap) (locs1 : List Loc), mWd G A s.heap M1 H1 locs1 → W p l e R s m args below meth c H1 locs1 (cells + rm.cells) (slots + rm.slots) Q (F0 m (pc + 3) ls (v :: rest))) : W p l e R s m args below meth c H locs cells slots Q (F0 m pc ls st) := by
  refine mc_S F hM hC cw hpre hn hsize hst hW hdg hf fun r M2 H1 locs1 hP h1 _ => ?_
  obtain ⟨rfl, rfl⟩ := hP
  exact kk H1 locs1 h1
theorem mc_Sv (F : mFx p m c cc nL s args own meth ret0 G A) (hM : mWd G A s.heap M H locs) (hC : mMet l y ws rm (As) G Pr (pPost M1 (none))) (cw : CallB R s args own index y bytes maxL ret ws rm rm.cells rm.slots n ∧ (Cond.static y).before args s = true) (hpre : Pr M) (hn : As.length = n) (hsize : ls.size = nL) (hst : st = As.reverse ++ rest) (hW : (rest.map fun v => v.category).sum ≤ 8) (hdg : decode cc pc = .ok (.invokestatic index, 3)) (hf : cells + rm.cells ≤ R.cells ∧ slots + rm.slots ≤ R.slots)
    (kk : ∀ (H1 : Heap) (locs1 : List Loc), mWd G A s.heap M1 H1 locs1 → W p l e R s m args below meth c H1 locs1 (cells + rm.cells) (slots + rm.slots) Q (F0 m (pc + 3) ls (rest))) : W p l e R s m args below meth c H locs cells slots Q (F0 m pc ls st) := by
  refine mc_S F hM hC cw hpre hn hsize hst hW hdg hf fun r M2 H1 locs1 hP h1 _ => ?_
  obtain ⟨rfl, rfl⟩ := hP
  exact kk H1 locs1 h1
theorem nK_lt {a b : Nat} (ha : a < 2 ^ 31) (hb : b < 2 ^ 31) : nI a < nI b ↔ a < b := by
  rw [Int32.lt_iff_toInt_lt, nI_toInt ha, nI_toInt hb]; omega
theorem nK_le {a b : Nat} (ha : a < 2 ^ 31) (hb : b < 2 ^ 31) : nI a ≤ nI b ↔ a ≤ b := by
  rw [Int32.le_iff_toInt_le, nI_toInt ha, nI_toInt hb]; omega
theorem nK_eq {a b : Nat} (ha : a < 2 ^ 31) (hb : b < 2 ^ 31) : nI a = nI b ↔ a = b := ⟨nK_inj ha hb, fun h => by rw [h]⟩
theorem mr_icmp_ltN (F : mFx p m c cc nL s args own meth ret0 G A) {a b : Nat} {off : Int} {tgt : Nat} (hdg : decode cc pc = .ok (.if_icmp .lt off, 3)) (ht : (pc : Int) + off = (tgt : Int)) (ha : a < 2 ^ 31) (hb : b < 2 ^ 31) (kt : a < b → W p l e R s m args below meth c H locs cells slots Q (F0 m tgt ls rest)) (kf : ¬ a < b → W p l e R s m args below meth c H locs cells slots Q (F0 m (pc + 3) ls rest)) : W p l e R s m args below meth c H locs cells slots Q (F0 m pc ls (.int (nI b) :: .int (nI a) :: rest)) :=
  lv_icmp_lt F.1.1 F.1.2.1 hdg ht (fun q => kt ((nK_lt ha hb).mp q)) (fun q => kf (fun n => q ((nK_lt ha hb).mpr n)))
theorem mr_icmp_geN (F : mFx p m c cc nL s args own meth ret0 G A) {a b : Nat} {off : Int} {tgt : Nat} (hdg : decode cc pc = .ok (.if_icmp .ge off, 3)) (ht : (pc : Int) + off = (tgt : Int)) (ha : a < 2 ^ 31) (hb : b < 2 ^ 31) (kt : b ≤ a → W p l e R s m args below meth c H locs cells slots Q (F0 m tgt ls rest)) (kf : ¬ b ≤ a → W p l e R s m args below meth c H locs cells slots Q (F0 m (pc + 3) ls rest)) : W p l e R s m args below meth c H locs cells slots Q (F0 m pc ls (.int (nI b) :: .int (nI a) :: rest)) :=
  lv_icmp_ge F.1.1 F.1.2.1 hdg ht (fun q => kt ((nK_le hb ha).mp q)) (fun q => kf (fun n => q ((nK_le hb ha).mpr n)))
theorem mr_icmp_gtN (F : mFx p m c cc nL s args own meth ret0 G A) {a b : Nat} {off : Int} {tgt : Nat} (hdg : decode cc pc = .ok (.if_icmp .gt off, 3)) (ht : (pc : Int) + off = (tgt : Int)) (ha : a < 2 ^ 31) (hb : b < 2 ^ 31) (kt : b < a → W p l e R s m args below meth c H locs cells slots Q (F0 m tgt ls rest)) (kf : ¬ b < a → W p l e R s m args below meth c H locs cells slots Q (F0 m (pc + 3) ls rest)) : W p l e R s m args below meth c H locs cells slots Q (F0 m pc ls (.int (nI b) :: .int (nI a) :: rest)) :=
  lv_icmp_gt F.1.1 F.1.2.1 hdg ht (fun q => kt ((nK_lt hb ha).mp q)) (fun q => kf (fun n => q ((nK_lt hb ha).mpr n)))
theorem mr_icmp_leN (F : mFx p m c cc nL s args own meth ret0 G A) {a b : Nat} {off : Int} {tgt : Nat} (hdg : decode cc pc = .ok (.if_icmp .le off, 3)) (ht : (pc : Int) + off = (tgt : Int)) (ha : a < 2 ^ 31) (hb : b < 2 ^ 31) (kt : a ≤ b → W p l e R s m args below meth c H locs cells slots Q (F0 m tgt ls rest)) (kf : ¬ a ≤ b → W p l e R s m args below meth c H locs cells slots Q (F0 m (pc + 3) ls rest)) : W p l e R s m args below meth c H locs cells slots Q (F0 m pc ls (.int (nI b) :: .int (nI a) :: rest)) :=
  lv_icmp_le F.1.1 F.1.2.1 hdg ht (fun q => kt ((nK_le ha hb).mp q)) (fun q => kf (fun n => q ((nK_le ha hb).mpr n)))
theorem mr_icmp_eqN (F : mFx p m c cc nL s args own meth ret0 G A) {a b : Nat} {off : Int} {tgt : Nat} (hdg : decode cc pc = .ok (.if_icmp .eq off, 3)) (ht : (pc : Int) + off = (tgt : Int)) (ha : a < 2 ^ 31) (hb : b < 2 ^ 31) (kt : a = b → W p l e R s m args below meth c H locs cells slots Q (F0 m tgt ls rest)) (kf : ¬ a = b → W p l e R s m args below meth c H locs cells slots Q (F0 m (pc + 3) ls rest)) : W p l e R s m args below meth c H locs cells slots Q (F0 m pc ls (.int (nI b) :: .int (nI a) :: rest)) :=
  lv_icmp_eq F.1.1 F.1.2.1 hdg ht (fun q => kt ((nK_eq ha hb).mp q)) (fun q => kf (fun n => q ((nK_eq ha hb).mpr n)))
theorem mr_icmp_neN (F : mFx p m c cc nL s args own meth ret0 G A) {a b : Nat} {off : Int} {tgt : Nat} (hdg : decode cc pc = .ok (.if_icmp .ne off, 3)) (ht : (pc : Int) + off = (tgt : Int)) (ha : a < 2 ^ 31) (hb : b < 2 ^ 31) (kt : ¬ a = b → W p l e R s m args below meth c H locs cells slots Q (F0 m tgt ls rest)) (kf : a = b → W p l e R s m args below meth c H locs cells slots Q (F0 m (pc + 3) ls rest)) : W p l e R s m args below meth c H locs cells slots Q (F0 m pc ls (.int (nI b) :: .int (nI a) :: rest)) :=
  lv_icmp_ne F.1.1 F.1.2.1 hdg ht (fun q => kt (fun e => q (by rw [e]))) (fun q => kf ((nK_eq ha hb).mp q))
theorem mr_ifneN (F : mFx p m c cc nL s args own meth ret0 G A) {a : Nat} {off : Int} {tgt : Nat} (hdg : decode cc pc = .ok (.ifCond .ne off, 3)) (ht : (pc : Int) + off = (tgt : Int)) (ha : a < 2 ^ 31) (kt : ¬ a = 0 → W p l e R s m args below meth c H locs cells slots Q (F0 m tgt ls rest)) (kf : a = 0 → W p l e R s m args below meth c H locs cells slots Q (F0 m (pc + 3) ls rest)) : W p l e R s m args below meth c H locs cells slots Q (F0 m pc ls (.int (nI a) :: rest)) :=
  lv_if_ne F.1.1 F.1.2.1 hdg ht (fun q => kt (fun e => q (by rw [e]; rfl))) (fun q => kf (nK_inj ha (by decide) (q.trans rfl)))
theorem mr_ifeqN (F : mFx p m c cc nL s args own meth ret0 G A) {a : Nat} {off : Int} {tgt : Nat} (hdg : decode cc pc = .ok (.ifCond .eq off, 3)) (ht : (pc : Int) + off = (tgt : Int)) (ha : a < 2 ^ 31) (kt : a = 0 → W p l e R s m args below meth c H locs cells slots Q (F0 m tgt ls rest)) (kf : ¬ a = 0 → W p l e R s m args below meth c H locs cells slots Q (F0 m (pc + 3) ls rest)) : W p l e R s m args below meth c H locs cells slots Q (F0 m pc ls (.int (nI a) :: rest)) :=
  lv_if_eq F.1.1 F.1.2.1 hdg ht (fun q => kt (nK_inj ha (by decide) (q.trans rfl))) (fun q => kf (fun e => q (by rw [e]; rfl)))
theorem mr_ifleN (F : mFx p m c cc nL s args own meth ret0 G A) {a : Nat} {off : Int} {tgt : Nat} (hdg : decode cc pc = .ok (.ifCond .le off, 3)) (ht : (pc : Int) + off = (tgt : Int)) (ha : a < 2 ^ 31) (kt : a = 0 → W p l e R s m args below meth c H locs cells slots Q (F0 m tgt ls rest)) (kf : ¬ a = 0 → W p l e R s m args below meth c H locs cells slots Q (F0 m (pc + 3) ls rest)) : W p l e R s m args below meth c H locs cells slots Q (F0 m pc ls (.int (nI a) :: rest)) := by
  have e : (nI a ≤ 0) ↔ a = 0 := by
    have := nK_le ha (show 0 < 2 ^ 31 by decide)
    rw [show nI 0 = 0 from rfl] at this
    rw [this]; omega
  exact lv_if_le F.1.1 F.1.2.1 hdg ht (fun q => kt (e.mp q)) (fun q => kf (fun z => q (e.mpr z)))
theorem mr_ifgtN (F : mFx p m c cc nL s args own meth ret0 G A) {a : Nat} {off : Int} {tgt : Nat} (hdg : decode cc pc = .ok (.ifCond .gt off, 3)) (ht : (pc : Int) + off = (tgt : Int)) (ha : a < 2 ^ 31) (kt : ¬ a = 0 → W p l e R s m args below meth c H locs cells slots Q (F0 m tgt ls rest)) (kf : a = 0 → W p l e R s m args below meth c H locs cells slots Q (F0 m (pc + 3) ls rest)) : W p l e R s m args below meth c H locs cells slots Q (F0 m pc ls (.int (nI a) :: rest)) := by
  have e : (nI a ≤ 0) ↔ a = 0 := by
    have := nK_le ha (show 0 < 2 ^ 31 by decide)
    rw [show nI 0 = 0 from rfl] at this
    rw [this]; omega
  exact lv_if_gt F.1.1 F.1.2.1 hdg ht (fun q => kt (fun z => absurd (e.mpr z) (Int32.not_le.mpr q))) (fun q => kf (e.mp (Int32.not_lt.mp q)))
end TW1
