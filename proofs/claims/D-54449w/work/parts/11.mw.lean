/-! THE WORLD AS A MAP: what the heap holds at which address, whole; a method's contract says what becomes of the map. Rows for the instructions that touch the heap. -/
section MW0
abbrev mE : Type := va_E ⊕ Cell
abbrev mM : Type := Nat → Option mE
/-- classes' numbers and slots, array classes (0 ..) and made classes (20 ..), the address of ArrayList's empty array -/
abbrev mG : Type := va_G × (Nat → ClassId) × Nat
abbrev eO (ci : Nat) (fs : List Value) : mE := .inl (.inr (ci, fs))
abbrev eI (cA : ClassId) (n : Nat) (f : Nat → Int32) : mE := .inl (.inl (cA, n, .inl f))
abbrev eJ (cA : ClassId) (n : Nat) (f : Nat → Int64) : mE := .inl (.inl (cA, n, .inr (.inl f)))
abbrev eF (cA : ClassId) (n : Nat) (f : Nat → UInt32) : mE := .inl (.inl (cA, n, .inr (.inr (.inl f))))
abbrev eQ (cA : ClassId) (n : Nat) (f : Nat → Option Nat) : mE := .inl (.inl (cA, n, .inr (.inr (.inr (.inr f)))))
abbrev vwCl : List vw_C := [(RX1, TX1, 4), (RX2, TX2, 7), (RX3, TX3, 7), (RX5, TX5, 3), (RX6, TX6, 3), (RX7, TX7, 17), (RX8, TX8, 3), (RX9, TX9, 4), (RX10, TX10, 5), (RJ2, TJ2, 3), (RJ8, TJ8, 3), (RJ10, TJ10, 4)]
abbrev mtys (G : mG) : List (ClassId × FieldType) := [(G.2.1 0, .int), (G.2.1 1, .float), (G.2.1 2, .long), (G.2.1 3, .byte), (G.2.1 4, .object "java/lang/Object"), (G.2.1 5, .object "DiskPacks$DataHead"), (G.2.1 6, .object "DiskPacks$Drive"), (G.2.1 7, .object "DiskPacks$Surface"), (G.2.1 8, .object "DiskPacks$Order"), (G.2.1 9, .object "DiskPacks$Reason")]
def mat (G : mG) (a : Nat) (e : mE) (H : Heap) : Prop := match e with
  | .inl x => va_at G.1 vwCl (a, x) H
  | .inr c => H[a]? = some c
def mOn (G : mG) (M : mM) (H : Heap) : Prop := ∀ (a : Nat) (e : mE), M a = some e → mat G a e H
def mup (M : mM) (a : Nat) (e : mE) : mM := fun j => if j = a then some e else M j
theorem mup_self (M : mM) (a : Nat) (e : mE) : mup M a e a = some e := if_pos rfl
theorem mup_ne {M : mM} {a j : Nat} {e : mE} (h : j ≠ a) : mup M a e j = M j := if_neg h
/-- what a method may write: the map's cells, and new ones -/
def mA (M : mM) (sz : Nat) : Nat → Prop := fun q => M q ≠ none ∨ sz ≤ q
theorem mat.kept {G : mG} {a : Nat} {e : mE} {H H1 : Heap} (h : mat G a e H) (hq : H1[a]? = H[a]?) : mat G a e H1 := by
  cases e with
  | inl x => exact va_at.kept (q := (a, x)) h hq
  | inr c => exact hq.trans h
theorem mat.lt {G : mG} {a : Nat} {e : mE} {H : Heap} (h : mat G a e H) : a < H.size := by
  cases e with
  | inl x => exact va_at.lt (q := (a, x)) h
  | inr c => exact (Array.getElem?_eq_some_iff.mp h).1
theorem mOn.lt {G : mG} {M : mM} {H : Heap} (h : mOn G M H) {a : Nat} {e : mE} (ha : M a = some e) : a < H.size := (h a e ha).lt
theorem mOn.new {G : mG} {M : mM} {H : Heap} (h : mOn G M H) {a : Nat} (ha : H.size ≤ a) : M a = none := by
  cases he : M a with
  | none => rfl
  | some e => exact absurd (h.lt he) (Nat.not_lt.mpr ha)
/-- the world in the midst of a method -/
def mWd (G : mG) (A : Nat → Prop) (H0 : Heap) (M : mM) (H : Heap) (locs : List Loc) : Prop := mOn G M H ∧ (∀ q, M q ≠ none → A q) ∧ va_S A H0 H locs
theorem mWd.sing {G : mG} {A : Nat → Prop} {H0 : Heap} {M : mM} {H : Heap} {locs : List Loc} (h : mWd G A H0 M H locs) {a : Nat} {x : va_E} (ha : M a = some (.inl x)) : va_P G.1 vwCl [(a, x)] H := by
  intro k q hk
  cases k with
  | zero =>
    cases hk
    exact h.1 a _ ha
  | succ k => simp at hk
theorem mWd.put {G : mG} {A : Nat → Prop} {H0 : Heap} {M : mM} {H H1 : Heap} {locs : List Loc} (h : mWd G A H0 M H locs) {a : Nat} {e0 e : mE} (k : Nat) (ha : M a = some e0) (z : H1.size = H.size) (oq : ∀ q : Nat, q ≠ a → H1[q]? = H[q]?) (he : mat G a e H1) : mWd G A H0 (mup M a e) H1 (locs ++ [⟨a, k⟩]) := by
  refine ⟨fun b x hb => ?_, fun q hq => ?_, h.2.2.put z oq (h.2.1 a (by rw [ha]; exact fun w => by cases w))⟩
  · by_cases hba : b = a
    · subst hba
      rw [mup_self] at hb
      cases hb
      exact he
    · rw [mup_ne hba] at hb
      exact (h.1 b x hb).kept (oq b hba)
  · by_cases hqa : q = a
    · subst hqa
      exact h.2.1 q (by rw [ha]; exact fun w => by cases w)
    · rw [mup_ne hqa] at hq
      exact h.2.1 q hq
theorem mWd.push {G : mG} {A : Nat → Prop} {H0 : Heap} {M : mM} {H H1 : Heap} {locs : List Loc} (h : mWd G A H0 M H locs) (hA : ∀ q, H0.size ≤ q → A q) {e : mE} (z : H1.size = H.size + 1) (oq : ∀ q : Nat, q < H.size → H1[q]? = H[q]?) (he : mat G H.size e H1) : mWd G A H0 (mup M H.size e) H1 locs := by
  refine ⟨fun b x hb => ?_, fun q hq => ?_, ⟨Nat.le_trans h.2.2.1 (by omega), fun x h1 h2 => (oq x (Nat.lt_of_lt_of_le h1 h.2.2.1)).trans (h.2.2.2.1 x h1 h2), h.2.2.2.2⟩⟩
  · by_cases hba : b = H.size
    · subst hba
      rw [mup_self] at hb
      cases hb
      exact he
    · rw [mup_ne hba] at hb
      exact (h.1 b x hb).kept (oq b (h.1.lt hb))
  · by_cases hqa : q = H.size
    · subst hqa
      exact hA _ h.2.2.1
    · rw [mup_ne hqa] at hq
      exact h.2.1 q hq
theorem mWd.fresh {G : mG} {A : Nat → Prop} {H0 : Heap} {M : mM} {H : Heap} {locs : List Loc} (h : mWd G A H0 M H locs) : M H.size = none := h.1.new (Nat.le_refl _)
/-- the cell's array class is the one that the tables name -/
theorem mK_int {G : mG} {s : State} (hK : va_K G.1 vwCl (mtys G) s) {cA : ClassId} (h : s.vm.findClass ("[" ++ (FieldType.int).toString) = some cA) : cA = G.2.1 0 := Option.some.inj (h.symm.trans (hK.2 0 _ rfl).2)
theorem mK_float {G : mG} {s : State} (hK : va_K G.1 vwCl (mtys G) s) {cA : ClassId} (h : s.vm.findClass ("[" ++ (FieldType.float).toString) = some cA) : cA = G.2.1 1 := Option.some.inj (h.symm.trans (hK.2 1 _ rfl).2)
theorem mK_long {G : mG} {s : State} (hK : va_K G.1 vwCl (mtys G) s) {cA : ClassId} (h : s.vm.findClass ("[" ++ (FieldType.long).toString) = some cA) : cA = G.2.1 2 := Option.some.inj (h.symm.trans (hK.2 2 _ rfl).2)
theorem mK_byte {G : mG} {s : State} (hK : va_K G.1 vwCl (mtys G) s) {cA : ClassId} (h : s.vm.findClass ("[" ++ (FieldType.byte).toString) = some cA) : cA = G.2.1 3 := Option.some.inj (h.symm.trans (hK.2 3 _ rfl).2)
theorem mK_obj {G : mG} {s : State} (hK : va_K G.1 vwCl (mtys G) s) {k : Nat} {cK cA : ClassId} {C : String} (hk : (mtys G)[k]? = some (cK, .object C)) (h : s.vm.findClass ("[" ++ (FieldType.object C).toString) = some cA) : cA = cK := by
  obtain ⟨kA, comp, h1, h2, h3, h4⟩ := (hK.2 k _ hk).2
  exact Option.some.inj (h.symm.trans h4)
end MW0
section MW1
variable {p : Program} {l : Launch} {e : Env} {R : Room} {s : State} {m : MethodId} {args : Array Value} {below : List Frame} {meth : Method} {c : Code} {H : Heap} {locs : List Loc} {cells slots : Nat} {Q : State → Prop}
variable {cc : ByteArray} {pc : Nat} {ls : Array Slot} {rest : List Value} {G : mG} {A : Nat → Prop} {a : Nat} {H0 : Heap} {M : mM}
theorem mr_get (hexec : p.tables.exec = Jvm.exec) (hb : c.code = cc) {own ref C : String} {T : u_T} {N ci index : Nat} (hts : ∀ w ∈ lw_all, w.before args s = true) (hin : ∀ w ∈ u_ws C T N, w ∈ lw_all) (hown : s.vm.findClass own = some m.cls) (hK : va_K G.1 vwCl (mtys G) s) (hM : mWd G A H0 M H locs) {fs : List Value} (he : M a = some (eO ci fs)) (hc : vwCl[ci]? = some (C, T, N)) (k : Nat) (hk : k < N) (hlink : Cond.fieldLink own index ref (T k).2.1 (T k).2.2.1 ∈ lw_all) (hsame : ∀ x, s.fieldFound? (T k).1 (T k).2.1 (T k).2.2.1 = some x → s.fieldFound? ref (T k).2.1 (T k).2.2.1 = some x) {v : Value} (hv : fs[k]? = some v) (hdg : decode cc pc = .ok (.getfield index, 3))
    (kk : W p l e R s m args below meth c H locs cells slots Q (F0 m (pc + 3) ls (v :: rest))) : W p l e R s m args below meth c H locs cells slots Q (F0 m pc ls (.ref a :: rest)) :=
  va_get hexec hb hts hin hown hK (hM.sing he) 0 rfl hc k hk (hts _ hlink) hsame hv hdg kk
theorem mr_put (hexec : p.tables.exec = Jvm.exec) (hb : c.code = cc) {own ref C : String} {T : u_T} {N ci index : Nat} (hts : ∀ w ∈ lw_all, w.before args s = true) (hin : ∀ w ∈ u_ws C T N, w ∈ lw_all) (ty0 : Nat → FieldType) (hty : ∀ k, k < N → parseFieldDescriptor (T k).2.2.1 = some (ty0 k)) (hnm : ∀ a, a < N → ∀ b, b < N → a ≠ b → (T a).2.1 ≠ (T b).2.1) (hown : s.vm.findClass own = some m.cls) (hK : va_K G.1 vwCl (mtys G) s) (hM : mWd G A H0 M H locs) {fs : List Value} (he : M a = some (eO ci fs)) (hc : vwCl[ci]? = some (C, T, N)) (k : Nat) (hk : k < N) (hlink : Cond.fieldLink own index ref (T k).2.1 (T k).2.2.1 ∈ lw_all) (hsame : ∀ x, s.fieldFound? (T k).1 (T k).2.1 (T k).2.2.1 = some x → s.fieldFound? ref (T k).2.1 (T k).2.2.1 = some x) (hfin : (T k).2.2.2 = false) {v : Value} (hn : narrow (ty0 k) v = v) (hfit : fits (ty0 k) v = true) (hl : k < fs.length)
    (hdg : decode cc pc = .ok (.putfield index, 3)) (kk : ∀ (H1 : Heap) (locs1 : List Loc), mWd G A H0 (mup M a (eO ci (fs.set k v))) H1 locs1 → W p l e R s m args below meth c H1 locs1 cells slots Q (F0 m (pc + 3) ls rest)) : W p l e R s m args below meth c H locs cells slots Q (F0 m pc ls (v :: .ref a :: rest)) := by
  have hap := va_apart (own := own) hts hin ty0 hty hnm hK hc
  obtain ⟨r, h1, cell, q1, q2, q3, q4⟩ := hM.1 a _ he
  have hr : r = (C, T, N) := Option.some.inj (h1.symm.trans hc)
  subst hr
  obtain ⟨hS, hfc, kC, hkC, hkind⟩ := hK.1 ci _ hc
  obtain ⟨cf, kf, fi, f, hi, hsl⟩ := hS k hk
  have hlay := hts _ (hin _ (u_in_lay hk))
  unfold u_lay at hlay
  rw [if_neg (by rw [hfin]; decide)] at hlay
  have hst := (u_facts hfc hkC (u_lays hts hin hk) hi).1
  have h6 := u_store hfc hkC hkind hlay hi (hty k hk) hn hfit
  refine W.putK hexec hb (f := f) ⟨hown, hts _ hlink, ⟨_, _, _, hsame _ hi⟩, hst⟩ (by rw [q2]; exact h6) q1 q3 (by rw [hsl]; exact k2_hasslot (q4 k hk)) rfl rfl hdg fun H' e1 e2 e3 => ?_
  rw [hsl] at e1 ⊢
  exact kk H' _ (hM.put _ he e2 e3 (show va_at G.1 vwCl (a, .inr (ci, fs.set k v)) H' from ⟨_, hc, t_OB.to (V := updV (vp_V fs) k v) ⟨_, e1, q2, q3, t_set q4 hap hk v⟩ (fun j _ => vp_updV_set hl v j)⟩))
theorem mr_putF (hexec : p.tables.exec = Jvm.exec) (hb : c.code = cc) {own ref C : String} {T : u_T} {N ci index : Nat} (hts : ∀ w ∈ lw_all, w.before args s = true) (hin : ∀ w ∈ u_ws C T N, w ∈ lw_all) (ty0 : Nat → FieldType) (hty : ∀ k, k < N → parseFieldDescriptor (T k).2.2.1 = some (ty0 k)) (hnm : ∀ a, a < N → ∀ b, b < N → a ≠ b → (T a).2.1 ≠ (T b).2.1) (hown : s.vm.findClass own = some m.cls) (hK : va_K G.1 vwCl (mtys G) s) (hM : mWd G A H0 M H locs) {fs : List Value} (he : M a = some (eO ci fs)) (hc : vwCl[ci]? = some (C, T, N)) (k : Nat) (hk : k < N) (hlink : Cond.fieldLink own index ref (T k).2.1 (T k).2.2.1 ∈ lw_all) (hsame : ∀ x, s.fieldFound? (T k).1 (T k).2.1 (T k).2.2.1 = some x → s.fieldFound? ref (T k).2.1 (T k).2.2.1 = some x) (hfin : (T k).2.2.2 = true) (hin2 : meth.name = "<init>") (hdecl : (T k).1 = own) {v : Value} (hn : narrow (ty0 k) v = v) (hfit : fits (ty0 k) v = true) (hl : k < fs.length)
    (hdg : decode cc pc = .ok (.putfield index, 3)) (kk : ∀ (H1 : Heap) (locs1 : List Loc), mWd G A H0 (mup M a (eO ci (fs.set k v))) H1 locs1 → W p l e R s m args below meth c H1 locs1 cells slots Q (F0 m (pc + 3) ls rest)) : W p l e R s m args below meth c H locs cells slots Q (F0 m pc ls (v :: .ref a :: rest)) := by
  have hap := va_apart (own := own) hts hin ty0 hty hnm hK hc
  obtain ⟨r, h1, cell, q1, q2, q3, q4⟩ := hM.1 a _ he
  have hr : r = (C, T, N) := Option.some.inj (h1.symm.trans hc)
  subst hr
  obtain ⟨hS, hfc, kC, hkC, hkind⟩ := hK.1 ci _ hc
  obtain ⟨cf, kf, fi, f, hi, hsl⟩ := hS k hk
  have hlay := hts _ (hin _ (u_in_lay hk))
  unfold u_lay at hlay
  rw [if_pos hfin] at hlay
  have hst := (u_facts hfc hkC (u_lays hts hin hk) hi).1
  have hcf : m.cls = cf := by
    obtain ⟨_, _, c', _, _, _, -, -, hf', -, -, -, hown2, -⟩ := Cond.laysFinal_spec hlay
    have e1 : c' = cf := by have := hi.symm.trans hf'; simp at this; exact this.1.symm
    rw [hdecl] at hown2
    rw [← e1]; exact Option.some.inj (hown.symm.trans hown2)
  have h6 := u_fits hfc hkC hkind (Or.inr hlay) hi (hty k hk) hn hfit
  refine W.putFinK hexec hb hown (hts _ hlink) (hsame _ hi) hst hcf hin2 (by rw [q2]; exact h6) q1 q3 (by rw [hsl]; exact k2_hasslot (q4 k hk)) rfl rfl hdg fun H' e1 e2 e3 => ?_
  rw [hsl] at e1 ⊢
  exact kk H' _ (hM.put _ he e2 e3 (show va_at G.1 vwCl (a, .inr (ci, fs.set k v)) H' from ⟨_, hc, t_OB.to (V := updV (vp_V fs) k v) ⟨_, e1, q2, q3, t_set q4 hap hk v⟩ (fun j _ => vp_updV_set hl v j)⟩))
theorem vp_inK {k n : Nat} (h : k < n) (hk : k < 2 ^ 31) : vp_in (nI k) n := by
  intro q
  rcases q with q | q
  · rw [Int32.lt_iff_toInt_lt, nI_toInt hk, Int32.toInt_zero] at q
    omega
  · rw [show (nI k).toNatClampNeg = k from by rw [Int32.toNatClampNeg, nI_toInt hk]; rfl] at q
    omega
theorem nI_nat {k : Nat} (hk : k < 2 ^ 31) : (nI k).toNatClampNeg = k := by rw [Int32.toNatClampNeg, nI_toInt hk]; rfl
theorem mr_iald (hexec : p.tables.exec = Jvm.exec) (hb : c.code = cc) (hK : va_K G.1 vwCl (mtys G) s) (hM : mWd G A H0 M H locs) {n k : Nat} {f : Nat → Int32} (ha : M a = some (eI (G.2.1 0) n f)) (hk : k < n) (hk2 : k < 2 ^ 31) (hdg : decode cc pc = .ok (.iaload, 1))
    (kk : W p l e R s m args below meth c H locs cells slots Q (F0 m (pc + 1) ls (.int (f k) :: rest))) : W p l e R s m args below meth c H locs cells slots Q (F0 m pc ls (.int (nI k) :: .ref a :: rest)) := by
  refine va_iald hexec hb hK (hM.sing ha) 0 0 rfl rfl (vp_inK hk hk2) hdg ?_
  rw [nI_nat hk2]
  exact kk
theorem mr_fald (hexec : p.tables.exec = Jvm.exec) (hb : c.code = cc) (hK : va_K G.1 vwCl (mtys G) s) (hM : mWd G A H0 M H locs) {n k : Nat} {f : Nat → UInt32} (ha : M a = some (eF (G.2.1 1) n f)) (hk : k < n) (hk2 : k < 2 ^ 31) (hdg : decode cc pc = .ok (.faload, 1))
    (kk : W p l e R s m args below meth c H locs cells slots Q (F0 m (pc + 1) ls (.float (f k) :: rest))) : W p l e R s m args below meth c H locs cells slots Q (F0 m pc ls (.int (nI k) :: .ref a :: rest)) := by
  refine va_fald hexec hb hK (hM.sing ha) 0 1 rfl rfl (vp_inK hk hk2) hdg ?_
  rw [nI_nat hk2]
  exact kk
theorem mr_lald (hexec : p.tables.exec = Jvm.exec) (hb : c.code = cc) (hK : va_K G.1 vwCl (mtys G) s) (hM : mWd G A H0 M H locs) {n k : Nat} {f : Nat → Int64} (ha : M a = some (eJ (G.2.1 2) n f)) (hk : k < n) (hk2 : k < 2 ^ 31) (hdg : decode cc pc = .ok (.laload, 1))
    (kk : W p l e R s m args below meth c H locs cells slots Q (F0 m (pc + 1) ls (.long (f k) :: rest))) : W p l e R s m args below meth c H locs cells slots Q (F0 m pc ls (.int (nI k) :: .ref a :: rest)) := by
  refine va_lald hexec hb hK (hM.sing ha) 0 2 rfl rfl (vp_inK hk hk2) hdg ?_
  rw [nI_nat hk2]
  exact kk
theorem mr_bald (hexec : p.tables.exec = Jvm.exec) (hb : c.code = cc) (hK : va_K G.1 vwCl (mtys G) s) (hM : mWd G A H0 M H locs) {n k : Nat} {f : Nat → Int32} (ha : M a = some (eI (G.2.1 3) n f)) (hk : k < n) (hk2 : k < 2 ^ 31) (hdg : decode cc pc = .ok (.baload, 1))
    (kk : W p l e R s m args below meth c H locs cells slots Q (F0 m (pc + 1) ls (.int (f k) :: rest))) : W p l e R s m args below meth c H locs cells slots Q (F0 m pc ls (.int (nI k) :: .ref a :: rest)) := by
  refine va_bald hexec hb hK (hM.sing ha) 0 3 rfl rfl (vp_inK hk hk2) hdg ?_
  rw [nI_nat hk2]
  exact kk
theorem mr_aald (hexec : p.tables.exec = Jvm.exec) (hb : c.code = cc) (hK : va_K G.1 vwCl (mtys G) s) (hM : mWd G A H0 M H locs) {cA : ClassId} {C : String} (t0 : Nat) {n k : Nat} {f : Nat → Option Nat} (ha : M a = some (eQ cA n f)) (ht : (mtys G)[t0]? = some (cA, .object C)) (hk : k < n) (hk2 : k < 2 ^ 31) {v : Value} (hv : va_rf (f k) = v) (hdg : decode cc pc = .ok (.aaload, 1))
    (kk : W p l e R s m args below meth c H locs cells slots Q (F0 m (pc + 1) ls (v :: rest))) : W p l e R s m args below meth c H locs cells slots Q (F0 m pc ls (.int (nI k) :: .ref a :: rest)) := by
  refine va_aldq hexec hb hK (hM.sing ha) 0 t0 rfl ht (vp_inK hk hk2) hdg ?_
  rw [nI_nat hk2, hv]
  exact kk
theorem mr_iast (hexec : p.tables.exec = Jvm.exec) (hb : c.code = cc) (hK : va_K G.1 vwCl (mtys G) s) (hM : mWd G A H0 M H locs) {n k : Nat} {f : Nat → Int32} {x : Int32} (ha : M a = some (eI (G.2.1 0) n f)) (hk : k < n) (hk2 : k < 2 ^ 31) (hdg : decode cc pc = .ok (.iastore, 1))
    (kk : ∀ (H1 : Heap) (locs1 : List Loc), mWd G A H0 (mup M a (eI (G.2.1 0) n (va_up f k x))) H1 locs1 → W p l e R s m args below meth c H1 locs1 cells slots Q (F0 m (pc + 1) ls rest)) : W p l e R s m args below meth c H locs cells slots Q (F0 m pc ls (.int x :: .int (nI k) :: .ref a :: rest)) := by
  refine W.iast hexec hb (hM.1 a _ ha) ((hK.2 0 _ rfl).1 n (fun j => .int (f j))) (fun q => by cases q) (by show ¬ (nI k < 0 ∨ (arrV _ _ _).slots.size ≤ _); rw [arrV_size]; exact vp_inK hk hk2) rfl rfl hdg fun H1 e z oq => ?_
  refine kk H1 _ (hM.put _ ha z oq ?_)
  show H1[a]? = some (vp_cell _ _)
  rw [e]
  rw [vp_cell_i, vp_cell_i, arrV_store, nI_nat hk2]
  congr 2
  funext q
  by_cases hq : q = k
  · subst hq
    simp [updV, va_up]
  · simp [updV, va_up, hq]
theorem mr_fast (hexec : p.tables.exec = Jvm.exec) (hb : c.code = cc) (hK : va_K G.1 vwCl (mtys G) s) (hM : mWd G A H0 M H locs) {n k : Nat} {f : Nat → UInt32} {x : UInt32} (ha : M a = some (eF (G.2.1 1) n f)) (hk : k < n) (hk2 : k < 2 ^ 31) (hdg : decode cc pc = .ok (.fastore, 1))
    (kk : ∀ (H1 : Heap) (locs1 : List Loc), mWd G A H0 (mup M a (eF (G.2.1 1) n (va_up f k x))) H1 locs1 → W p l e R s m args below meth c H1 locs1 cells slots Q (F0 m (pc + 1) ls rest)) : W p l e R s m args below meth c H locs cells slots Q (F0 m pc ls (.float x :: .int (nI k) :: .ref a :: rest)) := by
  refine W.fast hexec hb (hM.1 a _ ha) ((hK.2 1 _ rfl).1 n (fun j => .float (f j))) (fun q => by cases q) (by show ¬ (nI k < 0 ∨ (arrV _ _ _).slots.size ≤ _); rw [arrV_size]; exact vp_inK hk hk2) rfl rfl hdg fun H1 e z oq => ?_
  refine kk H1 _ (hM.put _ ha z oq ?_)
  show H1[a]? = some (vp_cell _ _)
  rw [e]
  rw [vp_cell_f, vp_cell_f, arrV_store, nI_nat hk2]
  congr 2
  funext q
  by_cases hq : q = k
  · subst hq
    simp [updV, va_up]
  · simp [updV, va_up, hq]
theorem mr_last (hexec : p.tables.exec = Jvm.exec) (hb : c.code = cc) (hK : va_K G.1 vwCl (mtys G) s) (hM : mWd G A H0 M H locs) {n k : Nat} {f : Nat → Int64} {x : Int64} (ha : M a = some (eJ (G.2.1 2) n f)) (hk : k < n) (hk2 : k < 2 ^ 31) (hdg : decode cc pc = .ok (.lastore, 1))
    (kk : ∀ (H1 : Heap) (locs1 : List Loc), mWd G A H0 (mup M a (eJ (G.2.1 2) n (va_up f k x))) H1 locs1 → W p l e R s m args below meth c H1 locs1 cells slots Q (F0 m (pc + 1) ls rest)) : W p l e R s m args below meth c H locs cells slots Q (F0 m pc ls (.long x :: .int (nI k) :: .ref a :: rest)) := by
  refine W.last hexec hb (hM.1 a _ ha) ((hK.2 2 _ rfl).1 n (fun j => .long (f j))) (fun q => by cases q) (by show ¬ (nI k < 0 ∨ (arrV _ _ _).slots.size ≤ _); rw [arrV_size]; exact vp_inK hk hk2) rfl rfl hdg fun H1 e z oq => ?_
  refine kk H1 _ (hM.put _ ha z oq ?_)
  show H1[a]? = some (vp_cell _ _)
  rw [e]
  rw [vp_cell_l, vp_cell_l, arrV_store, nI_nat hk2]
  congr 2
  funext q
  by_cases hq : q = k
  · subst hq
    simp [updV, va_up]
  · simp [updV, va_up, hq]
theorem mr_alen (hexec : p.tables.exec = Jvm.exec) (hb : c.code = cc) (hK : va_K G.1 vwCl (mtys G) s) (hM : mWd G A H0 M H locs) (t0 : Nat) {cA : ClassId} {x : vp_A} (ha : M a = some (.inl (.inl (cA, x)))) {ty : FieldType} (ht : (mtys G)[t0]? = some (cA, ty)) (hdg : decode cc pc = .ok (.arraylength, 1))
    (kk : W p l e R s m args below meth c H locs cells slots Q (F0 m (pc + 1) ls (.int (nI x.1) :: rest))) : W p l e R s m args below meth c H locs cells slots Q (F0 m pc ls (.ref a :: rest)) :=
  va_alen hexec hb hK (hM.sing ha) 0 t0 rfl ht rfl hdg kk
end MW1
section MW2
variable {p : Program} {l : Launch} {e : Env} {R : Room} {s : State} {m : MethodId} {args : Array Value} {below : List Frame} {meth : Method} {c : Code} {H : Heap} {locs : List Loc} {cells slots : Nat} {Q : State → Prop}
variable {cc : ByteArray} {pc : Nat} {ls : Array Slot} {rest : List Value} {G : mG} {A : Nat → Prop} {a : Nat} {H0 : Heap} {M : mM}
/-- a reference stored into an array of references; the class assignable by hasg -/
theorem mr_aast0 (hexec : p.tables.exec = Jvm.exec) (hb : c.code = cc) (hK : va_K G.1 vwCl (mtys G) s) (hM : mWd G A H0 M H locs) (t0 : Nat) {cA : ClassId} {C : String} {n k v : Nat} {f : Nat → Option Nat} (ha : M a = some (eQ cA n f)) (ht : (mtys G)[t0]? = some (cA, .object C)) (hk : k < n) (hk2 : k < 2 ^ 31) {cv : Cell} {kv : Class} (hv : H[v]? = some cv) (hvn : cv.vm = .none) (hkv : s.vm.classes[cv.cls]? = some kv) (hasg : ∀ comp, s.vm.findClass C = some comp → s.vm.assignable cv.cls comp = true) (hdg : decode cc pc = .ok (.aastore, 1))
    (kk : ∀ (H1 : Heap) (locs1 : List Loc), mWd G A H0 (mup M a (eQ cA n (va_up f k (some v)))) H1 locs1 → W p l e R s m args below meth c H1 locs1 cells slots Q (F0 m (pc + 1) ls rest)) : W p l e R s m args below meth c H locs cells slots Q (F0 m pc ls (.ref v :: .int (nI k) :: .ref a :: rest)) := by
  obtain ⟨kA, comp, k1, k2, k3, -⟩ := (hK.2 t0 _ ht).2
  obtain ⟨kE, hkE, -⟩ := Vm.findClass_spec k3
  have h0 : ¬ nI k < 0 := fun q => vp_inK hk hk2 (Or.inl q)
  refine W.aast hexec hb (hM.1 a _ ha) (fun q h => by cases h) (fun h => by cases h) k1 k2 rfl hkE ⟨h0, by show _ < (arrV _ _ _).slots.size; rw [arrV_size, nI_nat hk2]; exact hk⟩ hv (fun q h => by rw [hvn] at h; cases h) hkv (hasg comp k3) rfl rfl hdg fun H1 e z oq => ?_
  refine kk H1 _ (hM.put _ ha z oq ?_)
  show H1[a]? = some (vp_cell _ _)
  rw [e]
  rw [vp_cell_q, vp_cell_q, arrV_store, nI_nat hk2]
  congr 2
  funext q
  by_cases hq : q = k
  · subst hq
    simp [updV, va_up, va_rf]
  · simp [updV, va_up, hq]
/-- the element's class is the array's own component -/
theorem mr_aast (hexec : p.tables.exec = Jvm.exec) (hb : c.code = cc) (hK : va_K G.1 vwCl (mtys G) s) (hM : mWd G A H0 M H locs) (t0 ci : Nat) {cA : ClassId} {r : vw_C} {n k v : Nat} {vs : List Value} {f : Nat → Option Nat} (ha : M a = some (eQ cA n f)) (ht : (mtys G)[t0]? = some (cA, .object r.1)) (hv : M v = some (eO ci vs)) (hc : vwCl[ci]? = some r) (hk : k < n) (hk2 : k < 2 ^ 31) (hdg : decode cc pc = .ok (.aastore, 1))
    (kk : ∀ (H1 : Heap) (locs1 : List Loc), mWd G A H0 (mup M a (eQ cA n (va_up f k (some v)))) H1 locs1 → W p l e R s m args below meth c H1 locs1 cells slots Q (F0 m (pc + 1) ls rest)) : W p l e R s m args below meth c H locs cells slots Q (F0 m pc ls (.ref v :: .int (nI k) :: .ref a :: rest)) := by
  obtain ⟨r', hr', cellV, g1, g2, g3, -⟩ := hM.1 v _ hv
  have hcls := (hK.1 ci r hc).2
  obtain ⟨kC, hkC, hkind⟩ := hcls.2
  refine mr_aast0 hexec hb hK hM t0 ha ht hk hk2 g1 g3 (by rw [g2]; exact hkC) (fun comp h => ?_) hdg kk
  rw [g2, show comp = G.1.1 ci from Option.some.inj (h.symm.trans hcls.1)]
  exact va_assign hcls
/-- the element's class is castable to the component -/
theorem mr_aastO (hexec : p.tables.exec = Jvm.exec) (hb : c.code = cc) (hK : va_K G.1 vwCl (mtys G) s) (hM : mWd G A H0 M H locs) (t0 ci : Nat) {cA : ClassId} {C : String} {r : vw_C} {n k v : Nat} {vs : List Value} {f : Nat → Option Nat} (ha : M a = some (eQ cA n f)) (ht : (mtys G)[t0]? = some (cA, .object C)) (hca : va_Nw (.castable r.1 C) s) (hv : M v = some (eO ci vs)) (hc : vwCl[ci]? = some r) (hk : k < n) (hk2 : k < 2 ^ 31) (hdg : decode cc pc = .ok (.aastore, 1))
    (kk : ∀ (H1 : Heap) (locs1 : List Loc), mWd G A H0 (mup M a (eQ cA n (va_up f k (some v)))) H1 locs1 → W p l e R s m args below meth c H1 locs1 cells slots Q (F0 m (pc + 1) ls rest)) : W p l e R s m args below meth c H locs cells slots Q (F0 m pc ls (.ref v :: .int (nI k) :: .ref a :: rest)) := by
  obtain ⟨r', hr', cellV, g1, g2, g3, -⟩ := hM.1 v _ hv
  have hcls := (hK.1 ci r hc).2
  obtain ⟨kC, hkC, hkind⟩ := hcls.2
  obtain ⟨c0, t1, f1, f2, f3⟩ := Cond.castable_spec (va_Nw.use (A := args) rfl hca)
  cases hcls.1.symm.trans f1
  refine mr_aast0 hexec hb hK hM t0 ha ht hk hk2 g1 g3 (by rw [g2]; exact hkC) (fun comp h => ?_) hdg kk
  rw [g2, show comp = t1 from Option.some.inj (h.symm.trans f2)]
  exact f3
/-- new -/
theorem mr_new (hexec : p.tables.exec = Jvm.exec) (hb : c.code = cc) {own C : String} {T : u_T} {N ci index : Nat} (hts : ∀ w ∈ lw_all, w.before args s = true) (hin : ∀ w ∈ u_ws C T N, w ∈ lw_all) (ty : Nat → FieldType) (hty : ∀ k, k < N → parseFieldDescriptor (T k).2.2.1 = some (ty k)) (hown : s.vm.findClass own = some m.cls) (hcl : Cond.classLink own index C ∈ lw_all) (hinst : Cond.instantiable C N ∈ lw_all) (hini : Cond.initialized C ∈ lw_all)
    (hK : va_K G.1 vwCl (mtys G) s) (hM : mWd G A H0 M H locs) (hA : ∀ q, H0.size ≤ q → A q) (hc : vwCl[ci]? = some (C, T, N)) {fs : List Value} (hfs : ∀ j, j < N → defaultValue (ty j) = vp_V fs j) (hcells : cells + 1 ≤ R.cells) (hslots : slots + N ≤ R.slots) (hdg : decode cc pc = .ok (.new index, 3))
    (kk : ∀ (q : Nat) (H1 : Heap), M q = none → H.size = q → mWd G A H0 (mup M q (eO ci fs)) H1 locs →
      W p l e R s m args below meth c H1 locs (cells + 1) (slots + N) Q (F0 m (pc + 3) ls (.ref q :: rest))) : W p l e R s m args below meth c H locs cells slots Q (F0 m pc ls rest) := by
  have hKn := hK.1 ci _ hc
  refine W.newcK hexec hb hown (hts _ hcl) (hts _ hinst) (hts _ hini) rfl hdg hcells hslots hKn.2.1 rfl fun H1 kC hkC e1 z1 o1 => ?_
  exact kk H.size H1 hM.fresh rfl (hM.push hA z1 o1 ⟨_, hc, (u_born ty hts hin hKn hkC e1 hty).to hfs⟩)
/-- newarray -/
theorem mr_newa0 (hexec : p.tables.exec = Jvm.exec) (hb : c.code = cc) {atype : ArrayType} {ty : FieldType} (harr : (Cond.arrayClass ty).before args s = true) (hty : newarray.typeOf atype = ty) (hM : mWd G A H0 M H locs) (hA : ∀ q, H0.size ≤ q → A q)
    {n : Int32} {N' : Nat} {a0 : vp_A} {cK : ClassId} (hcK : ∀ cA : ClassId, s.vm.findClass ("[" ++ ty.toString) = some cA → cA = cK) (ha : vp_cell cK a0 = arrV cK N' (fun _ => defaultValue ty)) (hn : ¬ n < 0) (hN : n.toNatClampNeg = N') (hbytes : N' * componentBytes ty ≤ 536870912) (hcells : cells + 1 ≤ R.cells) (hslots : slots + N' ≤ R.slots) (hdg : decode cc pc = .ok (.newarray atype, 2))
    (kk : ∀ (q : Nat) (H1 : Heap), M q = none → H.size = q → mWd G A H0 (mup M q (.inl (.inl (cK, a0)))) H1 locs →
      W p l e R s m args below meth c H1 locs (cells + 1) (slots + N') Q (F0 m (pc + 2) ls (.ref q :: rest))) : W p l e R s m args below meth c H locs cells slots Q (F0 m pc ls (.int n :: rest)) := by
  subst hty
  refine va_newaK hexec hb harr rfl hdg rfl hn hN hbytes hcells hslots rfl fun H1 cA e1 z1 o1 hAr hNm => ?_
  have hcA := hcK cA hNm
  subst hcA
  refine kk H.size H1 hM.fresh rfl (hM.push hA z1 o1 ?_)
  show H1[H.size]? = some (vp_cell _ _)
  rw [ha]
  exact e1
theorem nI_neg {k : Nat} (hk : k < 2 ^ 31) : ¬ nI k < 0 := by
  rw [Int32.lt_iff_toInt_lt, nI_toInt hk, Int32.toInt_zero]
  omega
theorem mr_newi (hexec : p.tables.exec = Jvm.exec) (hb : c.code = cc) (hts : ∀ w ∈ lw_all, w.before args s = true) (hac : Cond.arrayClass .int ∈ lw_all) (hK : va_K G.1 vwCl (mtys G) s) (hM : mWd G A H0 M H locs) (hA : ∀ q, H0.size ≤ q → A q) {N' : Nat} (hN : N' ≤ 100000) (hcells : cells + 1 ≤ R.cells) (hslots : slots + N' ≤ R.slots) (hdg : decode cc pc = .ok (.newarray .int, 2))
    (kk : ∀ (q : Nat) (H1 : Heap), M q = none → H.size = q → mWd G A H0 (mup M q (eI (G.2.1 0) N' (fun _ => 0))) H1 locs →
      W p l e R s m args below meth c H1 locs (cells + 1) (slots + N') Q (F0 m (pc + 2) ls (.ref q :: rest))) : W p l e R s m args below meth c H locs cells slots Q (F0 m pc ls (.int (nI N') :: rest)) :=
  mr_newa0 hexec hb (hts _ hac) rfl hM hA (fun cA h => mK_int hK h) (a0 := (N', .inl (fun _ => 0))) (by rw [vp_cell_i]; rfl) (nI_neg (by omega)) (nI_nat (by omega)) (by show N' * 4 ≤ _; omega) hcells hslots hdg kk
theorem mr_newf (hexec : p.tables.exec = Jvm.exec) (hb : c.code = cc) (hts : ∀ w ∈ lw_all, w.before args s = true) (hac : Cond.arrayClass .float ∈ lw_all) (hK : va_K G.1 vwCl (mtys G) s) (hM : mWd G A H0 M H locs) (hA : ∀ q, H0.size ≤ q → A q) {N' : Nat} (hN : N' ≤ 100000) (hcells : cells + 1 ≤ R.cells) (hslots : slots + N' ≤ R.slots) (hdg : decode cc pc = .ok (.newarray .float, 2))
    (kk : ∀ (q : Nat) (H1 : Heap), M q = none → H.size = q → mWd G A H0 (mup M q (eF (G.2.1 1) N' (fun _ => 0))) H1 locs →
      W p l e R s m args below meth c H1 locs (cells + 1) (slots + N') Q (F0 m (pc + 2) ls (.ref q :: rest))) : W p l e R s m args below meth c H locs cells slots Q (F0 m pc ls (.int (nI N') :: rest)) :=
  mr_newa0 hexec hb (hts _ hac) rfl hM hA (fun cA h => mK_float hK h) (a0 := (N', .inr (.inr (.inl (fun _ => 0))))) (by rw [vp_cell_f]; rfl) (nI_neg (by omega)) (nI_nat (by omega)) (by show N' * 4 ≤ _; omega) hcells hslots hdg kk
theorem mr_newl (hexec : p.tables.exec = Jvm.exec) (hb : c.code = cc) (hts : ∀ w ∈ lw_all, w.before args s = true) (hac : Cond.arrayClass .long ∈ lw_all) (hK : va_K G.1 vwCl (mtys G) s) (hM : mWd G A H0 M H locs) (hA : ∀ q, H0.size ≤ q → A q) {N' : Nat} (hN : N' ≤ 100000) (hcells : cells + 1 ≤ R.cells) (hslots : slots + N' ≤ R.slots) (hdg : decode cc pc = .ok (.newarray .long, 2))
    (kk : ∀ (q : Nat) (H1 : Heap), M q = none → H.size = q → mWd G A H0 (mup M q (eJ (G.2.1 2) N' (fun _ => 0))) H1 locs →
      W p l e R s m args below meth c H1 locs (cells + 1) (slots + N') Q (F0 m (pc + 2) ls (.ref q :: rest))) : W p l e R s m args below meth c H locs cells slots Q (F0 m pc ls (.int (nI N') :: rest)) :=
  mr_newa0 hexec hb (hts _ hac) rfl hM hA (fun cA h => mK_long hK h) (a0 := (N', .inr (.inl (fun _ => 0)))) (by rw [vp_cell_l]; rfl) (nI_neg (by omega)) (nI_nat (by omega)) (by show N' * 8 ≤ _; omega) hcells hslots hdg kk
theorem mr_newb (hexec : p.tables.exec = Jvm.exec) (hb : c.code = cc) (hts : ∀ w ∈ lw_all, w.before args s = true) (hac : Cond.arrayClass .byte ∈ lw_all) (hK : va_K G.1 vwCl (mtys G) s) (hM : mWd G A H0 M H locs) (hA : ∀ q, H0.size ≤ q → A q) {N' : Nat} (hN : N' ≤ 100000) (hcells : cells + 1 ≤ R.cells) (hslots : slots + N' ≤ R.slots) (hdg : decode cc pc = .ok (.newarray .byte, 2))
    (kk : ∀ (q : Nat) (H1 : Heap), M q = none → H.size = q → mWd G A H0 (mup M q (eI (G.2.1 3) N' (fun _ => 0))) H1 locs →
      W p l e R s m args below meth c H1 locs (cells + 1) (slots + N') Q (F0 m (pc + 2) ls (.ref q :: rest))) : W p l e R s m args below meth c H locs cells slots Q (F0 m pc ls (.int (nI N') :: rest)) :=
  mr_newa0 hexec hb (hts _ hac) rfl hM hA (fun cA h => mK_byte hK h) (a0 := (N', .inl (fun _ => 0))) (by rw [vp_cell_i]; rfl) (nI_neg (by omega)) (nI_nat (by omega)) (by show N' * 1 ≤ _; omega) hcells hslots hdg kk
/-- anewarray -/
theorem mr_newq (hexec : p.tables.exec = Jvm.exec) (hb : c.code = cc) {own C : String} {index : Nat} (hts : ∀ w ∈ lw_all, w.before args s = true) (hown : s.vm.findClass own = some m.cls) (hcl : Cond.classLink own index C ∈ lw_all) (hover : va_Nw (.arrayOver (.object C)) s) (hK : va_K G.1 vwCl (mtys G) s) (hM : mWd G A H0 M H locs) (hA : ∀ q, H0.size ≤ q → A q) (t0 : Nat) {cK : ClassId} (ht : (mtys G)[t0]? = some (cK, .object C))
    {N' : Nat} (hN : N' ≤ 100000) (hcells : cells + 1 ≤ R.cells) (hslots : slots + N' ≤ R.slots) (hdg : decode cc pc = .ok (.anewarray index, 3))
    (kk : ∀ (q : Nat) (H1 : Heap), M q = none → H.size = q → mWd G A H0 (mup M q (eQ cK N' (fun _ => none))) H1 locs →
      W p l e R s m args below meth c H1 locs (cells + 1) (slots + N') Q (F0 m (pc + 3) ls (.ref q :: rest))) : W p l e R s m args below meth c H locs cells slots Q (F0 m pc ls (.int (nI N') :: rest)) := by
  refine W.anew hexec hb hown (hts _ hcl) (va_AO.use hover) rfl hdg rfl (nI_neg (by omega)) (by rw [nI_nat (by omega)]; omega) hcells (by rw [nI_nat (by omega)]; exact hslots) fun cA kA comp f1 f2 f3 f4 => ?_
  have hcA := mK_obj hK ht f1
  subst hcA
  rw [nI_nat (show N' < 2 ^ 31 by omega)]
  generalize hH1 : H.push ({ cls := cA, slots := Array.replicate N' .null, vm := .none } : Cell) = H1
  have z1 : H1.size = H.size + 1 := by rw [← hH1, Array.size_push]
  have e1 : H1[H.size]? = some (arrV cA N' (fun _ => .null)) := by rw [← hH1, Array.getElem?_push_size, ← arrV_new]
  have o1 : ∀ q : Nat, q < H.size → H1[q]? = H[q]? := fun q hq => by rw [← hH1, Array.getElem?_push, if_neg (Nat.ne_of_lt hq)]
  refine kk H.size H1 hM.fresh rfl (hM.push hA z1 o1 ?_)
  show H1[H.size]? = some (vp_cell _ _)
  rw [vp_cell_q]
  exact e1
end MW2
