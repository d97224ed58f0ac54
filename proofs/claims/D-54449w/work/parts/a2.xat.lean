/-! THE WHOLE SYSTEM'S WORLD: its object, its deque of saved states, its text, its states; who owns a cell -/
abbrev zS : Type := (Nat → Nat) × Nat × (Nat → Int32) × (Nat → UInt32) × (Nat → Int32)
abbrev zRow : Type := (Nat → Int32) × (Nat → UInt32)
abbrev zRF (s : zS) : zRow := (s.2.2.1, s.2.2.2.1)
/-- a State lies in M, in order, and own marks its cells -/
def zHas (G : mG) (own : Nat → Nat) (M : mM) (s : zS) : Prop := zOk s.1 s.2.1 s.2.2.1 s.2.2.2.1 s.2.2.2.2 ∧ sAt G s.1 s.2.1 s.2.2.1 s.2.2.2.1 s.2.2.2.2 M ∧ ∀ i, sL s.2.1 i → own (s.1 i) = s.1 0 + 2
def zV : Option zS → Value
  | none => .null
  | some s => .ref (s.1 0)
def zT (s : zS) (hs : List zS) (sn : Option zS) : List Nat := s.1 0 :: (hs.map (fun s => s.1 0) ++ sn.toList.map (fun s => s.1 0))
def xQ (G : mG) (M : mM) (hs : List zS) (hq eb a : Nat) (fn : Nat → Option Nat) : Prop := M hq = some (eO 10 [.ref eb, .int (nI a), .int (nI ((a + hs.length) % 17))]) ∧ M eb = some (eQ (G.2.1 4) 17 fn) ∧ a < 17 ∧ hs.length ≤ 5 ∧ ∀ i s, hs[i]? = some s → fn ((a + i) % 17) = some (s.1 0)
def xB (G : mG) (M : mM) (b : Nat → Int32) (nb bf v : Nat) (z : Int32) (cap : Nat) (t : Nat → Int32) : Prop := M bf = some (eO 11 [.ref v, .int (nI 0), .int z, .int (nI nb)]) ∧ M v = some (eI (G.2.1 3) cap t) ∧ rTx b t nb ∧ sb_Fit t ∧ nb ≤ 60 ∧ nb ≤ cap ∧ (cap = 16 ∨ cap = 34 ∨ cap = 70)
def xSs (G : mG) (own : Nat → Nat) (M : mM) (s : zS) (hs : List zS) (sn : Option zS) : Prop := zHas G own M s ∧ (∀ s', s' ∈ hs → zHas G own M s') ∧ (∀ s', sn = some s' → zHas G own M s') ∧ (zT s hs sn).Nodup
def xP (G : mG) (own : Nat → Nat) (M : mM) (x : Nat) (s : zS) (hs : List zS) (sn : Option zS) (b : Nat → Int32) (nb hq eb bf v a : Nat) (z : Int32) (cap : Nat) (fn : Nat → Option Nat) (t : Nat → Int32) : Prop :=
  M x = some (eO 0 [.ref (s.1 0), zV sn, .ref hq, .ref bf]) ∧ xQ G M hs hq eb a fn ∧ xB G M b nb bf v z cap t ∧ (own x = 1 ∧ own hq = 1 ∧ own eb = 1 ∧ own bf = 1 ∧ own v = 1) ∧ xSs G own M s hs sn
def xAt (G : mG) (own : Nat → Nat) (M : mM) (x : Nat) (s : zS) (hs : List zS) (sn : Option zS) (b : Nat → Int32) (nb : Nat) : Prop := ∃ (hq eb bf v a : Nat) (z : Int32) (cap : Nat) (fn : Nat → Option Nat) (t : Nat → Int32), xP G own M x s hs sn b nb hq eb bf v a z cap fn t
/-- what is not the system's stays, and stays outside -/
def xFr (own : Nat → Nat) (M : mM) (own' : Nat → Nat) (M' : mM) : Prop := ∀ c, own c = 0 → M c ≠ none → M' c = M c ∧ own' c = 0
def eKd : mE → Nat
  | .inl (.inr (ci, _)) => ci
  | .inl (.inl (_, _, .inl _)) => 100
  | .inl (.inl (_, _, .inr _)) => 101
  | .inr _ => 102
/-- new cells are marked t -/
def oNew (own : Nat → Nat) (M : mM) (t : Nat) : Nat → Nat := fun c => match M c with
  | none => t
  | some _ => own c
section XAT
variable {G : mG} {own own' own2 : Nat → Nat} {M M' M2 : mM} {x : Nat} {s s2 : zS} {hs : List zS} {sn : Option zS} {b : Nat → Int32} {nb hq eb bf v a : Nat} {z : Int32} {cap : Nat} {fn : Nat → Option Nat} {t : Nat → Int32}
theorem kd_ne {c d : Nat} {e e' : mE} (h : M c = some e) (h' : M d = some e') (hk : eKd e ≠ eKd e') : c ≠ d := fun q => by
  rw [q, h'] at h
  exact hk (congrArg eKd (Option.some.inj h)).symm
theorem sm_nn {c : Nat} {e : mE} (h : M c = some e) : M c ≠ none := by rw [h]; exact Option.some_ne_none _
theorem oNew_s {c t : Nat} (h : M c ≠ none) : oNew own M t c = own c := by
  unfold oNew
  cases e : M c with
  | none => exact absurd e h
  | some _ => rfl
theorem oNew_n {c t : Nat} (h : M c = none) : oNew own M t c = t := by
  unfold oNew
  rw [h]
theorem New.at (h : New M M') {c : Nat} (hc : M c ≠ Option.none) : M' c = M c := by
  cases e : M c with
  | none => exact absurd e hc
  | some y => exact h c y e
theorem zHas.keep (h : zHas G own M s) (hk : ∀ c, own c = s.1 0 + 2 → M c ≠ none → M' c = M c ∧ own' c = own c) : zHas G own' M' s :=
  ⟨h.1, fun i hi => ((hk _ (h.2.2 i hi) (sm_nn (h.2.1 i hi))).1).trans (h.2.1 i hi), fun i hi => ((hk _ (h.2.2 i hi) (sm_nn (h.2.1 i hi))).2).trans (h.2.2 i hi)⟩
theorem zHas.nn (h : zHas G own M s) : M (s.1 0) ≠ none := sm_nn (h.2.1 0 (by unfold sL; omega))
theorem zHas.own0 (h : zHas G own M s) : own (s.1 0) = s.1 0 + 2 := h.2.2 0 (by unfold sL; omega)
theorem xSs.keep (h : xSs G own M s hs sn) (hk : ∀ c, 2 ≤ own c → M c ≠ none → M' c = M c ∧ own' c = own c) : xSs G own' M' s hs sn :=
  ⟨h.1.keep (fun c e => hk c (by omega)), fun s' q => (h.2.1 s' q).keep (fun c e => hk c (by omega)), fun s' q => (h.2.2.1 s' q).keep (fun c e => hk c (by omega)), h.2.2.2⟩
theorem xP.keep (h : xP G own M x s hs sn b nb hq eb bf v a z cap fn t) (hk : ∀ c, own c ≠ 0 → M c ≠ none → M' c = M c ∧ own' c = own c) : xP G own' M' x s hs sn b nb hq eb bf v a z cap fn t := by
  obtain ⟨h1, ⟨q1, q2, q3⟩, ⟨b1, b2, b3⟩, ⟨o1, o2, o3, o4, o5⟩, hS⟩ := h
  have k1 := hk x (by omega) (sm_nn h1)
  have k2 := hk hq (by omega) (sm_nn q1)
  have k3 := hk eb (by omega) (sm_nn q2)
  have k4 := hk bf (by omega) (sm_nn b1)
  have k5 := hk v (by omega) (sm_nn b2)
  exact ⟨k1.1.trans h1, ⟨k2.1.trans q1, k3.1.trans q2, q3⟩, ⟨k4.1.trans b1, k5.1.trans b2, b3⟩, ⟨k1.2.trans o1, k2.2.trans o2, k3.2.trans o3, k4.2.trans o4, k5.2.trans o5⟩, hS.keep (fun c e => hk c (by omega))⟩
theorem xAt.keep (h : xAt G own M x s hs sn b nb) (hk : ∀ c, own c ≠ 0 → M c ≠ none → M' c = M c ∧ own' c = own c) : xAt G own' M' x s hs sn b nb := by
  obtain ⟨hq, eb, bf, v, a, z, cap, fn, t, h⟩ := h
  exact ⟨hq, eb, bf, v, a, z, cap, fn, t, h.keep hk⟩
theorem xP.at (h : xP G own M x s hs sn b nb hq eb bf v a z cap fn t) : xAt G own M x s hs sn b nb := ⟨hq, eb, bf, v, a, z, cap, fn, t, h⟩
theorem xP.new {t0 : Nat} (h : xP G own M x s hs sn b nb hq eb bf v a z cap fn t) (hN : New M M') : xP G (oNew own M t0) M' x s hs sn b nb hq eb bf v a z cap fn t := h.keep (fun _ _ hc => ⟨hN.at hc, oNew_s hc⟩)
theorem xFr.rf : xFr own M own M := fun _ h _ => ⟨rfl, h⟩
theorem xFr.trans (h : xFr own M own' M') (h2 : xFr own' M' own2 M2) : xFr own M own2 M2 := fun c ho hc => by
  obtain ⟨e1, e2⟩ := h c ho hc
  obtain ⟨e3, e4⟩ := h2 c e2 (by rw [e1]; exact hc)
  exact ⟨e3.trans e1, e4⟩
theorem xFr.new {t0 : Nat} (hN : New M M') : xFr own M (oNew own M t0) M' := fun _ ho hc => ⟨hN.at hc, (oNew_s hc).trans ho⟩
theorem xFr.up {c : Nat} {e : mE} (ho : own c ≠ 0) : xFr own M own (mup M c e) := fun d hd _ => ⟨mup_ne (fun q => ho (by rw [← q]; exact hd)), hd⟩
/-- the current State changed in place -/
theorem xP.chg {r' : Nat → Int32} {f' : Nat → UInt32} {dv' : Nat → Int32} (h : xP G own M x s hs sn b nb hq eb bf v a z cap fn t) (hz : zOk s.1 s.2.1 r' f' dv') : xP G own (sM G s.1 s.2.1 r' f' dv' M) x (s.1, s.2.1, r', f', dv') hs sn b nb hq eb bf v a z cap fn t ∧ xFr own M own (sM G s.1 s.2.1 r' f' dv' M) := by
  have hd : sAd s.2.1 s.1 := hz.1
  have out : ∀ c, own c ≠ s.1 0 + 2 → sM G s.1 s.2.1 r' f' dv' M c = M c := fun c hc => lay_out (fun i hi e => hc (by rw [← e]; exact h.2.2.2.2.1.2.2 i hi))
  refine ⟨?_, fun c hc _ => ⟨out c (by omega), hc⟩⟩
  obtain ⟨h1, ⟨q1, q2, q3⟩, ⟨b1, b2, b3⟩, ⟨o1, o2, o3, o4, o5⟩, hS⟩ := h
  have nd := hS.2.2.2
  unfold zT at nd
  rw [List.nodup_cons, List.mem_append] at nd
  refine ⟨(out _ (by omega)).trans h1, ⟨(out _ (by omega)).trans q1, (out _ (by omega)).trans q2, q3⟩, ⟨(out _ (by omega)).trans b1, (out _ (by omega)).trans b2, b3⟩, ⟨o1, o2, o3, o4, o5⟩, ⟨hz, sAt.of hd, hS.1.2.2⟩, fun s' q => (hS.2.1 s' q).keep (fun c e _ => ⟨out c (fun e2 => ?_), rfl⟩), fun s' q => (hS.2.2.1 s' q).keep (fun c e _ => ⟨out c (fun e2 => ?_), rfl⟩), hS.2.2.2⟩
  · exact nd.1 (Or.inl (List.mem_map.mpr ⟨s', q, by show s'.1 0 = s.1 0; omega⟩))
  · exact nd.1 (Or.inr (List.mem_map.mpr ⟨s', by rw [q]; exact List.mem_cons_self, by show s'.1 0 = s.1 0; omega⟩))
/-- the deque changed -/
theorem xP.deq {hs' : List zS} {a' : Nat} {fn' : Nat → Option Nat} (h : xP G own M x s hs sn b nb hq eb bf v a z cap fn t) (h1 : M' hq = some (eO 10 [.ref eb, .int (nI a'), .int (nI ((a' + hs'.length) % 17))])) (h2 : M' eb = some (eQ (G.2.1 4) 17 fn')) (h3 : ∀ c, c ≠ hq → c ≠ eb → M' c = M c) (ha : a' < 17) (hl : hs'.length ≤ 5) (hf : ∀ i s, hs'[i]? = some s → fn' ((a' + i) % 17) = some (s.1 0)) (hh : ∀ s', s' ∈ hs' → zHas G own M s') (nd : (zT s hs' sn).Nodup) : xP G own M' x s hs' sn b nb hq eb bf v a' z cap fn' t ∧ xFr own M own M' := by
  obtain ⟨g1, ⟨q1, q2, q3⟩, ⟨b1, b2, b3⟩, ⟨o1, o2, o3, o4, o5⟩, hS⟩ := h
  have k2 : ∀ c, own c ≠ 1 → M' c = M c := fun c hc => h3 c (fun e => hc (by rw [e]; exact o2)) (fun e => hc (by rw [e]; exact o3))
  have kk : ∀ s', zHas G own M s' → zHas G own M' s' := fun s' q => q.keep (fun c e _ => ⟨k2 c (by omega), rfl⟩)
  exact ⟨⟨(h3 _ (kd_ne g1 q1 (show (0 : Nat) ≠ 10 by decide)) (kd_ne g1 q2 (show (0 : Nat) ≠ 101 by decide))).trans g1, ⟨h1, h2, ha, hl, hf⟩, ⟨(h3 _ (kd_ne b1 q1 (show (11 : Nat) ≠ 10 by decide)) (kd_ne b1 q2 (show (11 : Nat) ≠ 101 by decide))).trans b1, (h3 _ (kd_ne b2 q1 (show (100 : Nat) ≠ 10 by decide)) (kd_ne b2 q2 (show (100 : Nat) ≠ 101 by decide))).trans b2, b3⟩, ⟨o1, o2, o3, o4, o5⟩, kk _ hS.1, fun s' q => kk s' (hh s' q), fun s' q => kk s' (hS.2.2.1 s' q), nd⟩, fun c hc _ => ⟨k2 c (by omega), hc⟩⟩
/-- the text changed -/
theorem xP.txt {b' : Nat → Int32} {nb' v' : Nat} {z' : Int32} {cap' : Nat} {t' : Nat → Int32} (h : xP G own M x s hs sn b nb hq eb bf v a z cap fn t) (hB : xB G M' b' nb' bf v' z' cap' t') (h3 : ∀ c, c ≠ bf → c ≠ v → M c ≠ none → M' c = M c) (ho : own' v' = 1) (hk : ∀ c, M c ≠ none → own' c = own c) : xP G own' M' x s hs sn b' nb' hq eb bf v' a z' cap' fn t' ∧ xFr own M own' M' := by
  obtain ⟨g1, ⟨q1, q2, q3⟩, ⟨b1, b2, b3⟩, ⟨o1, o2, o3, o4, o5⟩, hS⟩ := h
  have k2 : ∀ c, own c ≠ 1 → M c ≠ none → M' c = M c := fun c hc => h3 c (fun e => hc (by rw [e]; exact o4)) (fun e => hc (by rw [e]; exact o5))
  exact ⟨⟨(h3 _ (kd_ne g1 b1 (show (0 : Nat) ≠ 11 by decide)) (kd_ne g1 b2 (show (0 : Nat) ≠ 100 by decide)) (sm_nn g1)).trans g1, ⟨(h3 _ (kd_ne q1 b1 (show (10 : Nat) ≠ 11 by decide)) (kd_ne q1 b2 (show (10 : Nat) ≠ 100 by decide)) (sm_nn q1)).trans q1, (h3 _ (kd_ne q2 b1 (show (101 : Nat) ≠ 11 by decide)) (kd_ne q2 b2 (show (101 : Nat) ≠ 100 by decide)) (sm_nn q2)).trans q2, q3⟩, hB, ⟨(hk _ (sm_nn g1)).trans o1, (hk _ (sm_nn q1)).trans o2, (hk _ (sm_nn q2)).trans o3, (hk _ (sm_nn b1)).trans o4, ho⟩, hS.keep (fun c e hc => ⟨k2 c (by omega) hc, hk c hc⟩)⟩, fun c hc hn => ⟨k2 c (by omega) hn, (hk c hn).trans hc⟩⟩
/-- the object's two State fields changed -/
theorem xP.fld {sn' : Option zS} (h : xP G own M x s hs sn b nb hq eb bf v a z cap fn t) (hS : xSs G own M s2 hs sn') : xP G own (mup M x (eO 0 [.ref (s2.1 0), zV sn', .ref hq, .ref bf])) x s2 hs sn' b nb hq eb bf v a z cap fn t ∧ xFr own M own (mup M x (eO 0 [.ref (s2.1 0), zV sn', .ref hq, .ref bf])) := by
  obtain ⟨g1, ⟨q1, q2, q3⟩, ⟨b1, b2, b3⟩, ⟨o1, o2, o3, o4, o5⟩, -⟩ := h
  exact ⟨⟨mup_self _ _ _, ⟨(mup_ne (kd_ne q1 g1 (show (10 : Nat) ≠ 0 by decide))).trans q1, (mup_ne (kd_ne q2 g1 (show (101 : Nat) ≠ 0 by decide))).trans q2, q3⟩, ⟨(mup_ne (kd_ne b1 g1 (show (11 : Nat) ≠ 0 by decide))).trans b1, (mup_ne (kd_ne b2 g1 (show (100 : Nat) ≠ 0 by decide))).trans b2, b3⟩, ⟨o1, o2, o3, o4, o5⟩, hS.keep (fun c e _ => ⟨mup_ne (fun q => by rw [q] at e; omega), rfl⟩)⟩, xFr.up (by omega)⟩
/-- a State made anew, a copy -/
theorem zHas.made {q n : Nat} {ad : Nat → Nat} {r : Nat → Int32} {f : Nat → UInt32} {dv : Nat → Int32} (h : stMade G q n r f dv M M') (hz : zOk ad n r f dv) : ∃ ad', ad' 0 = q ∧ M q = none ∧ New M M' ∧ zHas G (oNew own M (q + 2)) M' (ad', n, r, f, dv) := by
  obtain ⟨ad', h0, h1, h2, h3, h4⟩ := h
  exact ⟨ad', h0, by rw [← h0]; exact h2 0 (by unfold sL; omega), h3, ⟨h1, hz.2⟩, h4, fun i hi => (oNew_n (h2 i hi)).trans (by rw [← h0])⟩
theorem xSs.fresh (h : xSs G own M s hs sn) {q : Nat} (hq : M q = none) : q ∉ zT s hs sn := by
  unfold zT
  rw [List.mem_cons, List.mem_append]
  rintro (e | e | e)
  · exact h.1.nn (by rw [← e]; exact hq)
  · obtain ⟨s', m, rfl⟩ := List.mem_map.mp e
    exact (h.2.1 s' m).nn hq
  · obtain ⟨s', m, rfl⟩ := List.mem_map.mp e
    exact (h.2.2.1 s' (by cases sn with
      | none => cases m
      | some y => rw [Option.toList_some, List.mem_singleton] at m; rw [m])).nn hq
theorem zT_push {q : Nat} (h : (zT s hs sn).Nodup) (hq : q ∉ zT s hs sn) (h0 : s2.1 0 = q) : (zT s (hs ++ [s2]) sn).Nodup := by
  have e : zT s (hs ++ [s2]) sn = (s.1 0 :: hs.map (fun s => s.1 0)) ++ q :: sn.toList.map (fun s => s.1 0) := by
    unfold zT
    rw [List.map_append, List.append_assoc, ← h0]
    rfl
  rw [e]
  exact List.perm_middle.nodup_iff.mpr (List.nodup_cons.mpr ⟨hq, h⟩)
theorem zT_tail {s0 : zS} (h : (zT s (s0 :: hs) sn).Nodup) : (zT s hs sn).Nodup := by
  unfold zT at *
  simp only [List.mem_cons, List.mem_append, not_or, List.nodup_cons, List.map_cons, List.cons_append] at *
  exact ⟨h.1.2, h.2.2⟩
/-- the oldest saved State goes -/
theorem xP.popF {s0 : zS} (h : xP G own M x s (s0 :: hs) sn b nb hq eb bf v a z cap fn t) : xP G own (mup (mup M eb (eQ (G.2.1 4) 17 (va_up fn a none))) hq (eO 10 [.ref eb, .int (nI ((a + 1) % 17)), .int (nI ((a + (s0 :: hs).length) % 17))])) x s hs sn b nb hq eb bf v ((a + 1) % 17) z cap (va_up fn a none) t ∧ xFr own M own (mup (mup M eb (eQ (G.2.1 4) 17 (va_up fn a none))) hq (eO 10 [.ref eb, .int (nI ((a + 1) % 17)), .int (nI ((a + (s0 :: hs).length) % 17))])) := by
  have hl := h.2.1.2.2.2.1
  have hn := kd_ne h.2.1.2.1 h.2.1.1 (show (101 : Nat) ≠ 10 by decide)
  rw [List.length_cons] at hl ⊢
  refine h.deq ((mup_self _ _ _).trans ?_) ((mup_ne hn).trans (mup_self _ _ _)) (fun c h1 h2 => (mup_ne h1).trans (mup_ne h2)) (Nat.mod_lt _ (by decide)) (by omega) (fun i s' hi => ?_) (fun s' q => h.2.2.2.2.2.1 s' (List.mem_cons_of_mem _ q)) (zT_tail h.2.2.2.2.2.2.2)
  · rw [show (a + (hs.length + 1)) % 17 = ((a + 1) % 17 + hs.length) % 17 by omega]
  · have hi2 : i < hs.length := (List.getElem?_eq_some_iff.mp hi).1
    rw [va_up_ne _ _ (by omega), show ((a + 1) % 17 + i) % 17 = (a + (i + 1)) % 17 by omega]
    exact h.2.1.2.2.2.2 (i + 1) s' (by rw [List.getElem?_cons_succ]; exact hi)
/-- one State more is saved -/
theorem xP.addL {q : Nat} (h : xP G own M x s hs sn b nb hq eb bf v a z cap fn t) (hl : hs.length ≤ 4) (h2 : zHas G own M s2) (h0 : s2.1 0 = q) (nq : q ∉ zT s hs sn) : xP G own (mup (mup M eb (eQ (G.2.1 4) 17 (va_up fn ((a + hs.length) % 17) (some q)))) hq (eO 10 [.ref eb, .int (nI a), .int (nI (((a + hs.length) % 17 + 1) % 17))])) x s (hs ++ [s2]) sn b nb hq eb bf v a z cap (va_up fn ((a + hs.length) % 17) (some q)) t ∧ xFr own M own (mup (mup M eb (eQ (G.2.1 4) 17 (va_up fn ((a + hs.length) % 17) (some q)))) hq (eO 10 [.ref eb, .int (nI a), .int (nI (((a + hs.length) % 17 + 1) % 17))])) := by
  have hn := kd_ne h.2.1.2.1 h.2.1.1 (show (101 : Nat) ≠ 10 by decide)
  have ha := h.2.1.2.2.1
  have el : (hs ++ [s2]).length = hs.length + 1 := by rw [List.length_append]; rfl
  refine h.deq ((mup_self _ _ _).trans ?_) ((mup_ne hn).trans (mup_self _ _ _)) (fun c h1 h2 => (mup_ne h1).trans (mup_ne h2)) ha (by rw [el]; omega) (fun i s' hi => ?_) (fun s' m => ?_) (zT_push h.2.2.2.2.2.2.2 nq h0)
  · rw [el, show ((a + hs.length) % 17 + 1) % 17 = (a + (hs.length + 1)) % 17 by omega]
  · have hi2 : i < hs.length + 1 := by rw [← el]; exact (List.getElem?_eq_some_iff.mp hi).1
    by_cases e : i < hs.length
    · rw [List.getElem?_append_left e] at hi
      rw [va_up_ne _ _ (by omega)]
      exact h.2.1.2.2.2.2 i s' hi
    · obtain rfl : i = hs.length := by omega
      rw [List.getElem?_append_right (Nat.le_refl _), Nat.sub_self] at hi
      obtain rfl : s2 = s' := Option.some.inj hi
      rw [va_up_self, h0]
  · rcases List.mem_append.mp m with m | m
    · exact h.2.2.2.2.2.1 s' m
    · rw [List.mem_singleton.mp m]; exact h2
/-- the newest saved State goes -/
theorem xP.popL {hs' : List zS} (e : hs = hs' ++ [s2]) (h : xP G own M x s hs sn b nb hq eb bf v a z cap fn t) : fn (((a + hs.length) % 17 + 16) % 17) = some (s2.1 0) ∧ xP G own (mup (mup M hq (eO 10 [.ref eb, .int (nI a), .int (nI (((a + hs.length) % 17 + 16) % 17))])) eb (eQ (G.2.1 4) 17 (va_up fn (((a + hs.length) % 17 + 16) % 17) none))) x s hs' sn b nb hq eb bf v a z cap (va_up fn (((a + hs.length) % 17 + 16) % 17) none) t ∧ xFr own M own (mup (mup M hq (eO 10 [.ref eb, .int (nI a), .int (nI (((a + hs.length) % 17 + 16) % 17))])) eb (eQ (G.2.1 4) 17 (va_up fn (((a + hs.length) % 17 + 16) % 17) none))) := by
  have hn := kd_ne h.2.1.1 h.2.1.2.1 (show (10 : Nat) ≠ 101 by decide)
  have ha := h.2.1.2.2.1
  have hl := h.2.1.2.2.2.1
  have el : hs.length = hs'.length + 1 := by rw [e, List.length_append]; rfl
  have ei : ((a + hs.length) % 17 + 16) % 17 = (a + hs'.length) % 17 := by omega
  have hf := h.2.1.2.2.2.2
  rw [ei]
  refine ⟨hf hs'.length s2 (by rw [e, List.getElem?_append_right (Nat.le_refl _), Nat.sub_self]; rfl), h.deq ((mup_ne hn).trans (mup_self _ _ _)) (mup_self _ _ _) (fun c h1 h2 => (mup_ne h2).trans (mup_ne h1)) ha (by omega) (fun i s' hi => ?_) (fun s' m => h.2.2.2.2.2.1 s' (by rw [e]; exact List.mem_append_left _ m)) ?_⟩
  · have hi2 : i < hs'.length := (List.getElem?_eq_some_iff.mp hi).1
    rw [va_up_ne _ _ (by omega)]
    exact hf i s' (by rw [e, List.getElem?_append_left hi2]; exact hi)
  · have nd := h.2.2.2.2.2.2.2
    have e2 : zT s hs sn = (s.1 0 :: hs'.map (fun s => s.1 0)) ++ s2.1 0 :: sn.toList.map (fun s => s.1 0) := by
      rw [e]
      unfold zT
      rw [List.map_append, List.append_assoc]
      rfl
    rw [e2] at nd
    exact (List.nodup_cons.mp (List.perm_middle.nodup_iff.mp nd)).2
end XAT
/-- the list of saved rows after one more -/
def zPush (l : List zRow) (e : zRow) : List zRow := (if l.length = 5 then l.tail else l) ++ [e]
theorem zPush_f {hs : List zS} {s0 s2 : zS} {e : zRow} (h : (s0 :: hs).length = 5) (h2 : zRF s2 = e) : (hs ++ [s2]).map zRF = zPush ((s0 :: hs).map zRF) e := by
  unfold zPush
  rw [List.length_map, if_pos h, List.map_append, ← h2]
  rfl
theorem zPush_n {hs : List zS} {s2 : zS} {e : zRow} (h : ¬ hs.length = 5) (h2 : zRF s2 = e) : (hs ++ [s2]).map zRF = zPush (hs.map zRF) e := by
  unfold zPush
  rw [List.length_map, if_neg h, List.map_append, ← h2]
  rfl
