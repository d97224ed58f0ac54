/-! ROWS FOR THE DEQUE, THE BUILDER, COPIES; a store that is refused; a State where it lies in any world -/
section AAB
variable {p : Program} {l : Launch} {e : Env} {R : Room} {s : State} {m : MethodId} {args : Array Value} {below : List Frame} {meth : Method} {c : Code} {T : State} {locs : List Loc} {cells slots : Nat}
theorem aast_bad (X : Stand p l e R s m args below meth c T locs cells slots) (hexec : p.tables.exec = Jvm.exec) {a v : Addr} {cell cv : Cell} {k kv kc : Class} {comp : ClassId} {t : FieldType} {j : Int32}
    (hcell : T.heap[a]? = some cell) (hobj : ∀ x, cell.vm ≠ .statics x) (hknown : cell.vm ≠ .unknown) (hk : T.vm.classes[cell.cls]? = some k) (hkind : k.kind = .array comp t) (hi : ¬ j < 0) (hlt : j.toNatClampNeg < cell.slots.size)
    (hv : T.heap[v]? = some cv) (hvobj : ∀ x, cv.vm ≠ .statics x) (hkv : T.vm.classes[cv.cls]? = some kv) (hkc : T.vm.classes[comp]? = some kc) (hinst : T.vm.assignable cv.cls comp = false)
    {g : JFrame} (hg : g.method = m) {rest : List Value} (hstack : g.stack = .ref v :: .int j :: .ref a :: rest) (hdg : decode c.code g.pc = .ok (.aastore, 1)) :
    ∀ target, Steps p.tables e below ((T.setTop { g with stack := rest }).pushFrame (.throwNew "java/lang/ArrayStoreException" (some kv.shown) none)) target → Steps p.tables e below (T.setTop g) target := by
  intro target hrest
  have harr : T.isArray cell := ⟨hobj, k, hk, comp, t, hkind⟩
  subst hg
  jvm_step X.here [hexec, hdg, aastore.sem, hstack, hcell, hobj, hknown, hk, hkind, hi, hlt, Nat.not_le.mpr hlt, harr, hv, hvobj, hkv, hkc, hinst]
  exact hrest
end AAB
section CMT
variable {p : Program} {l : Launch} {e : Env} {R : Room} {s : State} {m : MethodId} {args : Array Value} {below : List Frame} {meth : Method} {c : Code} {H : Heap} {locs : List Loc} {cells slots : Nat} {Q : State → Prop}
variable {cc : ByteArray} {pc : Nat} {ls : Array Slot} {rest st : List Value} {G : mG} {A : Nat → Prop} {M M1 : mM} {nL : Nat} {own : String} {ret0 : Option FieldType}
theorem mr_aastN (F : mFx p m c cc nL s args own meth ret0 G A) (hM : mWd G A s.heap M H locs) (t0 : Nat) {cA : ClassId} {C : String} {a n k : Nat} {f : Nat → Option Nat} (ha : M a = some (eQ cA n f)) (ht : (mtys G)[t0]? = some (cA, .object C)) (hk : k < n) (hk2 : k < 2 ^ 31) (hdg : decode cc pc = .ok (.aastore, 1))
    (kk : ∀ (H1 : Heap) (locs1 : List Loc), mWd G A s.heap (mup M a (eQ cA n (va_up f k none))) H1 locs1 → W p l e R s m args below meth c H1 locs1 cells slots Q (F0 m (pc + 1) ls rest)) : W p l e R s m args below meth c H locs cells slots Q (F0 m pc ls (.null :: .int (nI k) :: .ref a :: rest)) := by
  refine va_WaastN (C := C) F.1.1 F.1.2.1 (hM.1 a _ ha) ((F.2.1.2 t0 _ ht).1 n (fun j => va_rf (f j))) (fun h => by cases h) (by show ¬ (nI k < 0 ∨ (arrV _ _ _).slots.size ≤ _); rw [arrV_size]; exact vp_inK hk hk2) rfl rfl hdg fun H1 e z oq => ?_
  refine kk H1 _ (hM.put _ ha z oq ?_)
  show H1[a]? = some (vp_cell _ _)
  rw [e]
  rw [vp_cell_q, vp_cell_q, arrV_store, nI_nat hk2]
  congr 2
  funext q
  by_cases hq : q = k
  · subst hq
    simp [updV, va_up, va_rf]
  · simp [updV, va_up, hq]
theorem mr_bast (F : mFx p m c cc nL s args own meth ret0 G A) (hM : mWd G A s.heap M H locs) {a n k : Nat} {f : Nat → Int32} {x y : Int32} (ha : M a = some (eI (G.2.1 3) n f)) (hk : k < n) (hk2 : k < 2 ^ 31) (hx : vp_nar .byte x = y) (hdg : decode cc pc = .ok (.bastore, 1))
    (kk : ∀ (H1 : Heap) (locs1 : List Loc), mWd G A s.heap (mup M a (eI (G.2.1 3) n (va_up f k y))) H1 locs1 → W p l e R s m args below meth c H1 locs1 cells slots Q (F0 m (pc + 1) ls rest)) : W p l e R s m args below meth c H locs cells slots Q (F0 m pc ls (.int x :: .int (nI k) :: .ref a :: rest)) := by
  subst hx
  refine W.bast F.1.1 F.1.2.1 (hM.1 a _ ha) ((F.2.1.2 3 _ rfl).1 n (fun j => .int (f j))) (fun q => by cases q) (by show ¬ (nI k < 0 ∨ (arrV _ _ _).slots.size ≤ _); rw [arrV_size]; exact vp_inK hk hk2) rfl rfl hdg fun H1 e z oq => ?_
  refine kk H1 _ (hM.put _ ha z oq ?_)
  show H1[a]? = some (vp_cell _ _)
  rw [e]
  rw [vp_cell_i, vp_cell_i, arrV_store, nI_nat hk2]
  congr 2
  funext q
  by_cases hq : q = k
  · subst hq
    simp [updV, va_up, vp_nar]
    try rfl
  · simp [updV, va_up, hq]
theorem mr_getsC (F : mFx p m c cc nL s args own meth ret0 G A) (hM : mWd G A s.heap M H locs) {index : Nat} (hlink : Cond.fieldLink own index "java/lang/String" "COMPACT_STRINGS" "Z" ∈ lw_all) (hdg : decode cc pc = .ok (.getstatic index, 3))
    (kk : W p l e R s m args below meth c H locs cells slots Q (F0 m (pc + 3) ls (.int (nI 1) :: rest))) : W p l e R s m args below meth c H locs cells slots Q (F0 m pc ls rest) :=
  va_gets F.1.1 F.1.2.1 F.2.2.2.1.2.2.2.2.1 hM.2.2 F.1.2.2.2.1 (F.1.2.2.2.2 _ hlink) (fun x h => h) hdg kk
theorem mr_getsS (F : mFx p m c cc nL s args own meth ret0 G A) (hM : mWd G A s.heap M H locs) {index : Nat} (hlink : Cond.fieldLink own index "jdk/internal/util/Preconditions" "SIOOBE_FORMATTER" "Ljava/util/function/BiFunction;" ∈ lw_all) (hdg : decode cc pc = .ok (.getstatic index, 3))
    (k0 : W p l e R s m args below meth c H locs cells slots Q (F0 m (pc + 3) ls (.null :: rest))) (kk : ∀ t : Nat, W p l e R s m args below meth c H locs cells slots Q (F0 m (pc + 3) ls (.ref t :: rest))) : W p l e R s m args below meth c H locs cells slots Q (F0 m pc ls rest) := by
  rcases F.2.2.2.1.2.2.2.2.2.1 with h | ⟨t, h⟩
  · exact va_gets F.1.1 F.1.2.1 h hM.2.2 F.1.2.2.2.1 (F.1.2.2.2.2 _ hlink) (fun x h => h) hdg k0
  · exact va_gets F.1.1 F.1.2.1 h hM.2.2 F.1.2.2.2.1 (F.1.2.2.2.2 _ hlink) (fun x h => h) hdg (kk t)
theorem mWd.put2 {H0 : Heap} {H1 : Heap} (h : mWd G A H0 M H locs) {a : Nat} {e0 e : mE} (L : List Loc) (ha : M a = some e0) (z : H1.size = H.size) (oq : ∀ q : Nat, q ≠ a → H1[q]? = H[q]?) (he : mat G a e H1) (hL : ∀ x ∈ L, x.base = a) : mWd G A H0 (mup M a e) H1 (locs ++ L) := by
  obtain ⟨h1, h2, h3, h4, h5⟩ := h.put 0 ha z oq he
  refine ⟨h1, h2, h3, h4, fun q hq => ?_⟩
  rcases List.mem_append.mp hq with g | g
  · exact h5 q (List.mem_append_left _ g)
  · rw [hL q g]
    exact h.2.1 a (by rw [ha]; exact fun w => by cases w)
theorem mr_copyB (F : mFx p m c cc nL s args own meth ret0 G A) (hM : mWd G A s.heap M H locs) {index : Nat} (hlink : Cond.methodLink own index arraycopyName ∈ lw_all) {a0 a n0 n1 : Nat} {f g : Nat → Int32} (h0 : M a0 = some (eI (G.2.1 3) n0 f)) (h1 : M a = some (eI (G.2.1 3) n1 g)) {sp dp n : Nat} (b1 : sp < 2 ^ 31) (b2 : dp < 2 ^ 31) (b3 : n < 2 ^ 31) (h4 : sp + n ≤ n0) (h5 : dp + n ≤ n1) (hfit : ∀ i, i < n → fits .byte (.int (f (sp + i))) = true) (hsize : ls.size = nL)
    (hframes : 1 ≤ R.frames) (hlocals : (rest.map fun v => v.category).sum + (nativeFrameWords "java/lang/System" "arraycopy" 5 + 11) ≤ R.locals) (hdg : decode cc pc = .ok (.invokestatic index, 3))
    (kk : ∀ (H1 : Heap) (locs1 : List Loc), mWd G A s.heap (mup M a (eI (G.2.1 3) n1 (va_cpy f g sp dp n))) H1 locs1 → W p l e R s m args below meth c H1 locs1 cells slots Q (F0 m (pc + 3) ls rest)) : W p l e R s m args below meth c H locs cells slots Q (F0 m pc ls (.int (nI n) :: .int (nI dp) :: .ref a :: .int (nI sp) :: .ref a0 :: rest)) := by
  intro T hT X
  have hc0 : H[a0]? = some (vp_cell (G.2.1 3) (n0, .inl f)) := hM.1 a0 _ h0
  have hc1 : H[a]? = some (vp_cell (G.2.1 3) (n1, .inl g)) := hM.1 a _ h1
  have i1 := nI_toInt b1
  have i2 := nI_toInt b2
  have i3 := nI_toInt b3
  have e1 := nI_nat b1
  have e2 := nI_nat b2
  have e3 := nI_nat b3
  obtain ⟨-, k0, hk0, cm0, hkk0⟩ := (F.2.1.2 3 _ rfl).1 n0 (fun j => .int (f j))
  obtain ⟨-, k1, hk1, cm1, hkk1⟩ := (F.2.1.2 3 _ rfl).1 n1 (fun j => .int (g j))
  obtain ⟨vm', X', step⟩ := X.arraycopy F.1.1 F.1.2.2.2.1 (F.1.2.2.2.2 _ hlink) (F.1.2.2.2.2 _ q507) (F.1.2.2.2.2 _ q506) (F.1.2.2.2.2 _ q99) (src := a0) (dst := a) (cs := vp_cell (G.2.1 3) (n0, .inl f)) (cd := vp_cell (G.2.1 3) (n1, .inl g)) (srcPos := nI sp) (destPos := nI dp) (n := nI n) (by rw [hT]; exact hc0) (by rw [hT]; exact hc1)
    (fun _ h => by cases h) (fun _ h => by cases h) (fun h => by cases h) (fun h => by cases h) hk0 hk1 hkk0 hkk1 rfl (nI_pos b1) (nI_pos b2) (nI_pos b3)
    (by rw [i1, i3]; show ¬ _ > ((arrV (G.2.1 3) n0 (fun j => .int (f j))).slots.size : Int); rw [arrV_size]; omega)
    (by rw [i2, i3]; show ¬ _ > ((arrV (G.2.1 3) n1 (fun j => .int (g j))).slots.size : Int); rw [arrV_size]; omega)
    (fun vm₁ _ i hi => by
      rw [e3] at hi
      have e : (vp_cell (G.2.1 3) (n0, .inl f)).slots.getD ((nI sp).toNatClampNeg + i) .null = .int (f (sp + i)) := by
        show (arrV (G.2.1 3) n0 (fun j => .int (f j))).slots.getD _ _ = _
        rw [e1, Array.getD_eq_getD_getElem?, arrV_read _ _ (by omega)]
        rfl
      refine ⟨?_, ?_⟩
      · rw [e]
        exact hfit i hi
      · rw [e]
        exact trivial)
    (g := F0 m pc ls (.int (nI n) :: .int (nI dp) :: .ref a :: .int (nI sp) :: .ref a0 :: rest)) rfl (hsize.trans F.1.2.2.1.symm) (rest := rest) rfl (by rw [F.1.2.1]; exact hdg) hframes (by show 2 * 0 + _ + _ ≤ _; omega)
  have ec : copied (vp_cell (G.2.1 3) (n0, .inl f)) (vp_cell (G.2.1 3) (n1, .inl g)) (nI sp) (nI dp) (nI n) = vp_cell (G.2.1 3) (n1, .inl (va_cpy f g sp dp n)) := by
    have := va_copied (fun z => Value.int z) (G.2.1 3) (G.2.1 3) (n0 := n0) (n1 := n1) (sp := sp) (dp := dp) (n := n) f g h4
    unfold copied
    rw [e1, e2, e3]
    exact this
  rw [ec] at X' step
  have hl : a < (T.setVm vm').heap.size := by
    show a < T.heap.size
    rw [hT]; exact (Array.getElem?_eq_some_iff.mp hc1).1
  obtain ⟨t, a1, b4⟩ := kk _ _ (hM.put2 (e := eI (G.2.1 3) n1 (va_cpy f g sp dp n)) ((Cell.stretch (vp_cell (G.2.1 3) (n0, .inl f)) (nI sp).toNatClampNeg (nI n).toNatClampNeg).zipIdx.map fun q => ⟨a, (nI dp).toNatClampNeg + q.2⟩) h1 (by rw [size_setCell]; show T.heap.size = H.size; rw [hT]) (fun q hq => by rw [heapAt_setCell_ne _ (Ne.symm hq)]; show T.heap[q]? = H[q]?; rw [hT]) (heapAt_setCell_self _ hl) (fun x hx => by
      obtain ⟨z, -, hz⟩ := List.mem_map.mp hx
      rw [← hz])) _ rfl X'
  exact ⟨t, step t a1, b4⟩
theorem mr_copyQ (F : mFx p m c cc nL s args own meth ret0 G A) (hM : mWd G A s.heap M H locs) {index : Nat} (hlink : Cond.methodLink own index arraycopyName ∈ lw_all) (t0 ci : Nat) {cA : ClassId} {rC : vw_C} {a0 a n0 n1 : Nat} {f g : Nat → Option Nat} (ht : (mtys G)[t0]? = some (cA, .object rC.1)) (hc : vwCl[ci]? = some rC) (h0 : M a0 = some (eQ cA n0 f)) (h1 : M a = some (eQ cA n1 g)) {sp dp n : Nat} (b1 : sp < 2 ^ 31) (b2 : dp < 2 ^ 31) (b3 : n < 2 ^ 31) (h4 : sp + n ≤ n0) (h5 : dp + n ≤ n1) (hel : ∀ i, i < n → ∀ y, f (sp + i) = some y → ∃ vs, M y = some (eO ci vs)) (hsize : ls.size = nL)
    (hframes : 1 ≤ R.frames) (hlocals : (rest.map fun v => v.category).sum + (nativeFrameWords "java/lang/System" "arraycopy" 5 + 11) ≤ R.locals) (hdg : decode cc pc = .ok (.invokestatic index, 3))
    (kk : ∀ (H1 : Heap) (locs1 : List Loc), mWd G A s.heap (mup M a (eQ cA n1 (va_cpy f g sp dp n))) H1 locs1 → W p l e R s m args below meth c H1 locs1 cells slots Q (F0 m (pc + 3) ls rest)) : W p l e R s m args below meth c H locs cells slots Q (F0 m pc ls (.int (nI n) :: .int (nI dp) :: .ref a :: .int (nI sp) :: .ref a0 :: rest)) := by
  intro T hT X
  have hc0 : H[a0]? = some (vp_cell cA (n0, .inr (.inr (.inr (.inr f))))) := hM.1 a0 _ h0
  have hc1 : H[a]? = some (vp_cell cA (n1, .inr (.inr (.inr (.inr g))))) := hM.1 a _ h1
  have i1 := nI_toInt b1
  have i2 := nI_toInt b2
  have i3 := nI_toInt b3
  have e1 := nI_nat b1
  have e2 := nI_nat b2
  have e3 := nI_nat b3
  have hcls := (F.2.1.1 ci rC hc).2
  obtain ⟨-, k0, hk0, cm0, hkk0⟩ := (F.2.1.2 t0 _ ht).1 n0 (fun j => va_rf (f j))
  obtain ⟨-, k1, hk1, cm1, hkk1⟩ := (F.2.1.2 t0 _ ht).1 n1 (fun j => va_rf (g j))
  obtain ⟨vm', X', step⟩ := X.arraycopy F.1.1 F.1.2.2.2.1 (F.1.2.2.2.2 _ hlink) (F.1.2.2.2.2 _ q507) (F.1.2.2.2.2 _ q506) (F.1.2.2.2.2 _ q99) (src := a0) (dst := a) (cs := vp_cell cA (n0, .inr (.inr (.inr (.inr f))))) (cd := vp_cell cA (n1, .inr (.inr (.inr (.inr g))))) (srcPos := nI sp) (destPos := nI dp) (n := nI n) (by rw [hT]; exact hc0) (by rw [hT]; exact hc1)
    (fun _ h => by cases h) (fun _ h => by cases h) (fun h => by cases h) (fun h => by cases h) hk0 hk1 hkk0 hkk1 rfl (nI_pos b1) (nI_pos b2) (nI_pos b3)
    (by rw [i1, i3]; show ¬ _ > ((arrV cA n0 (fun j => va_rf (f j))).slots.size : Int); rw [arrV_size]; omega)
    (by rw [i2, i3]; show ¬ _ > ((arrV cA n1 (fun j => va_rf (g j))).slots.size : Int); rw [arrV_size]; omega)
    (fun vm₁ hal i hi => by
      rw [e3] at hi
      have e : (vp_cell cA (n0, .inr (.inr (.inr (.inr f))))).slots.getD ((nI sp).toNatClampNeg + i) .null = va_rf (f (sp + i)) := by
        show (arrV cA n0 (fun j => va_rf (f j))).slots.getD _ _ = _
        rw [e1, Array.getD_eq_getD_getElem?, arrV_read _ _ (by omega)]
        rfl
      rw [e]
      cases hy : f (sp + i) with
      | none => exact ⟨rfl, trivial⟩
      | some y =>
        obtain ⟨vs, hv⟩ := hel i hi y hy
        obtain ⟨r', hr', cellV, g1, g2, g3, -⟩ := hM.1 y _ hv
        obtain ⟨kA, comp, r1, r2, r3, -⟩ := (F.2.1.2 t0 _ ht).2
        cases hk1.symm.trans r1
        cases hkk1.symm.trans r2
        have hcc : s.vm.findClass rC.1 = some cellV.cls := by rw [g2]; exact hcls.1
        obtain ⟨kE, hkE, -⟩ := Vm.findClass_spec r3
        obtain ⟨kC, hkC, -⟩ := Vm.findClass_spec hcc
        obtain ⟨kC', hkC', -⟩ := hal.2.2 _ _ hkC
        obtain ⟨kE', hkE', -⟩ := hal.2.2 _ _ hkE
        refine ⟨rfl, cellV, (show T.heap[y]? = some cellV by rw [hT]; exact g1), (fun q h => by rw [g3] at h; cases h), ⟨kC', hkC'⟩, ?_, ?_⟩
        · exact ⟨kE', hkE'⟩
        · show vm₁.assignable _ _ = true
          rw [hal.assignable, g2, show cm1 = G.1.1 ci from Option.some.inj (r3.symm.trans hcls.1)]
          exact va_assign hcls)
    (g := F0 m pc ls (.int (nI n) :: .int (nI dp) :: .ref a :: .int (nI sp) :: .ref a0 :: rest)) rfl (hsize.trans F.1.2.2.1.symm) (rest := rest) rfl (by rw [F.1.2.1]; exact hdg) hframes (by show 2 * 0 + _ + _ ≤ _; omega)
  have ec : copied (vp_cell cA (n0, .inr (.inr (.inr (.inr f))))) (vp_cell cA (n1, .inr (.inr (.inr (.inr g))))) (nI sp) (nI dp) (nI n) = vp_cell cA (n1, .inr (.inr (.inr (.inr (va_cpy f g sp dp n))))) := by
    have := va_copied (fun z => va_rf z) cA cA (n0 := n0) (n1 := n1) (sp := sp) (dp := dp) (n := n) f g h4
    unfold copied
    rw [e1, e2, e3, vp_cell_q, vp_cell_q, vp_cell_q]
    exact this
  rw [ec] at X' step
  have hl : a < (T.setVm vm').heap.size := by
    show a < T.heap.size
    rw [hT]; exact (Array.getElem?_eq_some_iff.mp hc1).1
  obtain ⟨t, a1, b4⟩ := kk _ _ (hM.put2 (e := eQ cA n1 (va_cpy f g sp dp n)) ((Cell.stretch (vp_cell cA (n0, .inr (.inr (.inr (.inr f))))) (nI sp).toNatClampNeg (nI n).toNatClampNeg).zipIdx.map fun q => ⟨a, (nI dp).toNatClampNeg + q.2⟩) h1 (by rw [size_setCell]; show T.heap.size = H.size; rw [hT]) (fun q hq => by rw [heapAt_setCell_ne _ (Ne.symm hq)]; show T.heap[q]? = H[q]?; rw [hT]) (heapAt_setCell_self _ hl) (fun x hx => by
      obtain ⟨z, -, hz⟩ := List.mem_map.mp hx
      rw [← hz])) _ rfl X'
  exact ⟨t, step t a1, b4⟩
/-- the store of an object that the array does not take -/
theorem mr_aastX (F : mFx p m c cc nL s args own meth ret0 G A) (hM : mWd G A s.heap M H locs) (t0 ci : Nat) {cA : ClassId} {C : String} {rC : vw_C} {a n k v : Nat} {vs : List Value} {f : Nat → Option Nat} (ha : M a = some (eQ cA n f)) (ht : (mtys G)[t0]? = some (cA, .object C)) (hv : M v = some (eO ci vs)) (hc : vwCl[ci]? = some rC) (hnc : va_Nc rC.1 C s) (hk : k < n) (hk2 : k < 2 ^ 31) (hdg : decode cc pc = .ok (.aastore, 1))
    (kk : vx_Note p l e R s m args below meth c H locs cells slots Q (F0 m pc ls rest) "java/lang/ArrayStoreException" (dotted rC.1)) : W p l e R s m args below meth c H locs cells slots Q (F0 m pc ls (.ref v :: .int (nI k) :: .ref a :: rest)) := by
  intro T hT X
  have hca : T.heap[a]? = some (vp_cell cA (n, .inr (.inr (.inr (.inr f))))) := by rw [hT]; exact hM.1 a _ ha
  obtain ⟨r', hr', cellV, g1, g2, g3, -⟩ := hM.1 v _ hv
  have hcls := (F.2.1.1 ci rC hc).2
  have hfV : s.vm.findClass rC.1 = some cellV.cls := by rw [g2]; exact hcls.1
  obtain ⟨kA, comp, k1, k2, k3, -⟩ := (F.2.1.2 t0 _ ht).2
  obtain ⟨x1, x2, f1, f2, f3⟩ := hnc
  have e1 : x1 = cellV.cls := Option.some.inj (f1.symm.trans hfV)
  have e2 : x2 = comp := Option.some.inj (f2.symm.trans k3)
  subst e1; subst e2
  have hal := X.warmed.alike
  obtain ⟨kA', hkA', hA1⟩ := hal.2.2 _ _ k1
  obtain ⟨kC, hkC, hnm⟩ := Vm.findClass_spec (show T.vm.findClass rC.1 = some cellV.cls by rw [hal.findClass]; exact hfV)
  obtain ⟨kE, hkE, -⟩ := Vm.findClass_spec (show T.vm.findClass C = some x2 by rw [hal.findClass]; exact k3)
  have hasg : T.vm.assignable cellV.cls x2 = false := by rw [hal.assignable]; exact f3
  have hkA9 : kA'.kind = .array x2 (.object C) := by rw [hA1]; exact k2
  have hhid : kC.hidden = none := by
    have h1 := show T.vm.findClass rC.1 = some cellV.cls by rw [hal.findClass]; exact hfV
    obtain ⟨hlt, hp, _⟩ := Array.findIdx?_eq_some_iff_getElem.mp h1
    have e1 : kC = T.vm.classes[cellV.cls] := by
      have := hkC
      rw [Array.getElem?_eq_getElem hlt] at this
      exact (Option.some.inj this).symm
    simp only [Bool.and_eq_true, beq_iff_eq] at hp
    rw [e1]
    exact Option.isNone_iff_eq_none.mp hp.1.1.2
  have hshow : kC.shown = dotted rC.1 := by
    unfold Class.shown
    rw [hhid, hnm]
  obtain ⟨t, st, b⟩ := kk T hT X
  refine ⟨t, aast_bad X F.1.1 hca (fun q h => by cases h) (fun h => by cases h) hkA' hkA9 (nI_pos hk2) (by show _ < (arrV _ _ _).slots.size; rw [arrV_size, nI_nat hk2]; exact hk) (by rw [hT]; exact g1) (fun q h => by rw [g3] at h; cases h) hkC hkE hasg (g := F0 m pc ls (.ref v :: .int (nI k) :: .ref a :: rest)) rfl rfl (by rw [F.1.2.1]; exact hdg) t ?_, b⟩
  rw [hshow]
  exact st
theorem sAt.q {ad : Nat → Nat} {n : Nat} {r : Nat → Int32} {f : Nat → UInt32} {dv : Nat → Int32} {M0 : mM} {l : Launch} {y : MethodName} {ws : List Cond} {rm : Room} {av : List Value} {Po : mM → Option Value → mM → Prop} (hS : sAt G ad n r f dv M0) (hd : sAd n ad) (h : mMet l y ws rm av G (pPre (sM G ad n r f dv M0)) Po) : mMet l y ws rm av G (pPre M0) Po := by
  rw [sAt.eq hd hS] at h
  exact h
theorem sAt.q2 {ad : Nat → Nat} {n : Nat} {r : Nat → Int32} {f : Nat → UInt32} {dv : Nat → Int32} {M0 : mM} {l : Launch} {y : MethodName} {ws : List Cond} {rm : Room} {av : List Value} {v : Option Value} (hS : sAt G ad n r f dv M0) (hd : sAd n ad) (h : mMet l y ws rm av G (pPre (sM G ad n r f dv M0)) (pPost (sM G ad n r f dv M0) v)) : mMet l y ws rm av G (pPre M0) (pPost M0 v) := by
  rw [sAt.eq hd hS] at h
  exact h
end CMT
theorem dq_int {a b : Nat} (ha : a < 17) (hb : b < 17) : (nI a - nI b).toInt = (a : Int) - b := by
  rw [i_sub (A := 17) (B := 17) (bnd_nI (by omega) (by omega)) (bnd_nI (by omega) (by omega)) (by decide), nI_toInt (by omega), nI_toInt (by omega)]
theorem dq_sub1 {a b : Nat} (ha : a < 17) (hb : b < 17) (h : 0 ≤ nI a - nI b) : nI a - nI b = nI ((a + 17 - b) % 17) := by
  rw [Int32.le_iff_toInt_le, dq_int ha hb, Int32.toInt_zero] at h
  apply Int32.toInt_inj.mp
  rw [dq_int ha hb, nI_toInt (by omega)]
  omega
theorem dq_sub2 {a b : Nat} (ha : a < 17) (hb : b < 17) (h : ¬ 0 ≤ nI a - nI b) : nI a - nI b + nI 17 = nI ((a + 17 - b) % 17) := by
  rw [Int32.le_iff_toInt_le, dq_int ha hb, Int32.toInt_zero] at h
  have hb2 : bnd 17 (nI a - nI b) := by
    refine ⟨?_, ?_⟩ <;> rw [dq_int ha hb] <;> omega
  apply Int32.toInt_inj.mp
  rw [i_add hb2 (bnd_nI (B := 17) (by decide) (by decide)) (by decide), dq_int ha hb, nI_toInt (by omega), nI_toInt (by omega)]
  omega
theorem dq_dec1 {a : Nat} (ha : a < 17) (h : 0 ≤ nI a + -1) : nI a + -1 = nI ((a + 16) % 17) := by
  rcases Nat.eq_zero_or_pos a with rfl | h0
  · exact absurd h (by decide)
  · rw [sb_m1 h0, show (a + 16) % 17 = a - 1 by omega]
theorem dq_dec2 {a : Nat} (ha : a < 17) (h : ¬ 0 ≤ nI a + -1) : nI (17 - 1) = nI ((a + 16) % 17) := by
  rcases Nat.eq_zero_or_pos a with rfl | h0
  · rfl
  · rw [sb_m1 h0] at h
    exact absurd (nI_pos' (by omega)) h
section CSU
variable {p : Program} {l : Launch} {e : Env} {R : Room} {s : State} {m : MethodId} {args : Array Value} {below : List Frame} {meth : Method} {c : Code} {H : Heap} {locs : List Loc} {cells slots : Nat} {Q : State → Prop}
variable {cc : ByteArray} {pc : Nat} {ls : Array Slot} {rest st : List Value} {G : mG} {A : Nat → Prop} {M M1 : mM} {nL : Nat} {own : String} {ret0 : Option FieldType}
variable {y : MethodName} {bytes : ByteArray} {maxL n index : Nat} {ret : Option FieldType} {rm : Room} {Pre : mM → Prop} {Post : mM → Option Value → mM → Prop} {As : List Value} {b ci : Nat} {ws : List Cond} {v : Value}
theorem lw_SU {own : String} {idx : Nat} {y : MethodName} {b : ByteArray} {L : Nat} {r : Option FieldType} (h1 : Cond.methodLink own idx y ∈ lw_all) (h0 : Cond.sameMethod y.cls y.cls y.name y.desc ∈ lw_all) (h2 : Cond.superclass own y.cls ∈ lw_all) (h3 : Cond.instanceMethod y ∈ lw_all) (h4 : Cond.initialized y.cls ∈ lw_all) (h5 : Cond.code y b L r ∈ lw_all) : GoodIn lw_all (va_wsSU own idx y (ws_ y b L r)) := by
  unfold va_wsSU
  refine lw_app ?_ (lw_meth h5)
  intro w hw
  simp only [List.mem_cons, List.not_mem_nil, or_false] at hw
  rcases hw with e | e | e | e | e
  · rw [e]; exact h1
  · rw [e]; exact h0
  · rw [e]; exact h2
  · rw [e]; exact h3
  · rw [e]; exact h4
theorem mc_SU (F : mFx p m c cc nL s args own meth ret0 G A) (hM : mWd G A s.heap M H locs) (hC : mMet l y ws rm (.ref b :: As) G Pre Post) (cw : va_CS R s args own index y bytes maxL ret ws rm rm.cells rm.slots n) (hpre : Pre M) {fs : List Value} (hb : M b = some (eO ci fs)) {q : vw_C} (hc : vwCl[ci]? = some q) (hq : q.1 = q.1) (hn : As.length = n) (hsize : ls.size = nL) (hst : st = As.reverse ++ .ref b :: rest) (hW : (rest.map fun v => v.category).sum ≤ 8) (hdg : decode cc pc = .ok (.invokespecial index, 3)) (hf : cells + rm.cells ≤ R.cells ∧ slots + rm.slots ≤ R.slots)
    (kk : ∀ (r : Option Value) (M' : mM) (H1 : Heap) (locs1 : List Loc), Post M r M' → mWd G A s.heap M' H1 locs1 → H.size ≤ H1.size → W p l e R s m args below meth c H1 locs1 (cells + rm.cells) (slots + rm.slots) Q (F0 m (pc + 3) ls (r.toList ++ rest))) : W p l e R s m args below meth c H locs cells slots Q (F0 m pc ls st) := by
  exact mc_run (va_runSU (F.2.1.1 ci _ hc).2 F.1 (hC M H.size hpre) cw ⟨mPre.blind, hM.recv F.2.1 hb hc, fun U hU hW => mPre.at F hM hU hW _⟩ rfl hn hsize hst (lv_room hW) hdg hf) F.2.2.2.2.1 hM kk
theorem mc_SUa (F : mFx p m c cc nL s args own meth ret0 G A) (hM : mWd G A s.heap M H locs) (hC : mMet l y ws rm (.ref b :: As) G Pre (pPost M1 (some v))) (cw : va_CS R s args own index y bytes maxL ret ws rm rm.cells rm.slots n) {fs : List Value} (hb : M b = some (eO ci fs)) {q : vw_C} (hc : vwCl[ci]? = some q) (hq : q.1 = q.1) (hpre : Pre M) (hn : As.length = n) (hsize : ls.size = nL) (hst : st = As.reverse ++ .ref b :: rest) (hW : (rest.map fun v => v.category).sum ≤ 8) (hdg : decode cc pc = .ok (.invokespecial index, 3)) (hf : cells + rm.cells ≤ R.cells ∧ slots + rm.slots ≤ R.slots)
    (kk : ∀ (H1 : Heap) (locs1 : List Loc), mWd G A s.heap M1 H1 locs1 → W p l e R s m args below meth c H1 locs1 (cells + rm.cells) (slots + rm.slots) Q (F0 m (pc + 3) ls (v :: rest))) : W p l e R s m args below meth c H locs cells slots Q (F0 m pc ls st) := by
  refine mc_SU F hM hC cw hpre hb hc rfl hn hsize hst hW hdg hf fun r M2 H1 locs1 hP h1 _ => ?_
  obtain ⟨rfl, rfl⟩ := hP
  exact kk H1 locs1 h1
theorem mc_SUv (F : mFx p m c cc nL s args own meth ret0 G A) (hM : mWd G A s.heap M H locs) (hC : mMet l y ws rm (.ref b :: As) G Pre (pPost M1 none)) (cw : va_CS R s args own index y bytes maxL ret ws rm rm.cells rm.slots n) {fs : List Value} (hb : M b = some (eO ci fs)) {q : vw_C} (hc : vwCl[ci]? = some q) (hq : q.1 = q.1) (hpre : Pre M) (hn : As.length = n) (hsize : ls.size = nL) (hst : st = As.reverse ++ .ref b :: rest) (hW : (rest.map fun v => v.category).sum ≤ 8) (hdg : decode cc pc = .ok (.invokespecial index, 3)) (hf : cells + rm.cells ≤ R.cells ∧ slots + rm.slots ≤ R.slots)
    (kk : ∀ (H1 : Heap) (locs1 : List Loc), mWd G A s.heap M1 H1 locs1 → W p l e R s m args below meth c H1 locs1 (cells + rm.cells) (slots + rm.slots) Q (F0 m (pc + 3) ls (rest))) : W p l e R s m args below meth c H locs cells slots Q (F0 m pc ls st) := by
  refine mc_SU F hM hC cw hpre hb hc rfl hn hsize hst hW hdg hf fun r M2 H1 locs1 hP h1 _ => ?_
  obtain ⟨rfl, rfl⟩ := hP
  exact kk H1 locs1 h1
theorem mr_alenB (F : mFx p m c cc nL s args own meth ret0 G A) (hM : mWd G A s.heap M H locs) {a n : Nat} {f : Nat → Int32} (ha : M a = some (eI (G.2.1 3) n f)) (hdg : decode cc pc = .ok (.arraylength, 1))
    (kk : W p l e R s m args below meth c H locs cells slots Q (F0 m (pc + 1) ls (.int (nI n) :: rest))) : W p l e R s m args below meth c H locs cells slots Q (F0 m pc ls (.ref a :: rest)) :=
  mr_alen F.1.1 F.1.2.1 F.2.1 hM 3 ha rfl hdg kk
theorem mr_castAB (F : mFx p m c cc nL s args own meth ret0 G A) (hM : mWd G A s.heap M H locs) {index a n : Nat} {f : Nat → Int32} (hlink : Cond.classLink own index "[B" ∈ lw_all) (ha : M a = some (eI (G.2.1 3) n f)) (hdg : decode cc pc = .ok (.checkcast index, 3))
    (k : W p l e R s m args below meth c H locs cells slots Q (F0 m (pc + 3) ls (.ref a :: rest))) : W p l e R s m args below meth c H locs cells slots Q (F0 m pc ls (.ref a :: rest)) :=
  va_castA F.1.1 F.1.2.1 F.1.2.2.2.1 (F.1.2.2.2.2 _ hlink) (hM.sing ha) 0 rfl (F.2.1.2 3 _ rfl).2 hdg k
end CSU
section CGN
variable {p : Program} {l : Launch} {e : Env} {R : Room} {s : State} {m : MethodId} {args : Array Value} {below : List Frame} {meth : Method} {c : Code} {H : Heap} {locs : List Loc} {cells slots : Nat} {Q : State → Prop}
variable {cc : ByteArray} {pc : Nat} {ls : Array Slot} {rest : List Value} {G : mG} {A : Nat → Prop} {a : Nat} {M : mM} {nL : Nat} {own host : String} {ret0 : Option FieldType}
theorem cgN0 (F : mFx p m c cc nL s args own meth ret0 G A) (hM : mWd G A s.heap M H locs) {fs : List Value} (he : M a = some (eO 0 fs)) {ref : String} {index : Nat} (k : Nat) (hk : k < 4) (hlink : Cond.fieldLinkNest own index ref (TX1 k).2.1 (TX1 k).2.2.1 host ∈ lw_tbl) (hsame : ∀ x, s.fieldFound? (TX1 k).1 (TX1 k).2.1 (TX1 k).2.2.1 = some x → s.fieldFound? ref (TX1 k).2.1 (TX1 k).2.2.1 = some x) {v : Value} (hv : fs[k]? = some v) (hdg : decode cc pc = .ok (.getfield index, 3))
    (kk : W p l e R s m args below meth c H locs cells slots Q (F0 m (pc + 3) ls (v :: rest))) : W p l e R s m args below meth c H locs cells slots Q (F0 m pc ls (.ref a :: rest)) :=
  va_getN F.1.1 F.1.2.1 F.1.2.2.2.2 in_X1 F.1.2.2.2.1 F.2.1 (hM.sing he) 0 rfl (ci := 0) rfl k hk (va_Nw.use rfl (F.2.2.1.1 _ hlink rfl)) hsame hv hdg kk
theorem cgN8 (F : mFx p m c cc nL s args own meth ret0 G A) (hM : mWd G A s.heap M H locs) {fs : List Value} (he : M a = some (eO 8 fs)) {ref : String} {index : Nat} (k : Nat) (hk : k < 5) (hlink : Cond.fieldLinkNest own index ref (TX10 k).2.1 (TX10 k).2.2.1 host ∈ lw_tbl) (hsame : ∀ x, s.fieldFound? (TX10 k).1 (TX10 k).2.1 (TX10 k).2.2.1 = some x → s.fieldFound? ref (TX10 k).2.1 (TX10 k).2.2.1 = some x) {v : Value} (hv : fs[k]? = some v) (hdg : decode cc pc = .ok (.getfield index, 3))
    (kk : W p l e R s m args below meth c H locs cells slots Q (F0 m (pc + 3) ls (v :: rest))) : W p l e R s m args below meth c H locs cells slots Q (F0 m pc ls (.ref a :: rest)) :=
  va_getN F.1.1 F.1.2.1 F.1.2.2.2.2 in_X10 F.1.2.2.2.1 F.2.1 (hM.sing he) 0 rfl (ci := 8) rfl k hk (va_Nw.use rfl (F.2.2.1.1 _ hlink rfl)) hsame hv hdg kk
end CGN
section CSP
variable {p : Program} {s : State} {m : MethodId} {args : Array Value} {meth : Method} {c : Code} {cc : ByteArray} {G : mG} {A : Nat → Prop} {nL : Nat} {own : String} {ret0 : Option FieldType}
/-- a private method of a class above, called on an object of C -/
theorem mr_selP (F : mFx p m c cc nL s args own meth ret0 G A) {C : String} {x0 y0 y : MethodName} (h0 : Cond.selects C x0 y0 ∈ lw_all) (hc : y.cls = y0.cls) (hp : Cond.privateMethod y ∈ lw_tbl) (hi : Cond.instanceMethod y ∈ lw_all) (hy : y.cls ≠ "java/lang/invoke/MethodHandle" ∧ y.cls ≠ "java/lang/invoke/VarHandle") : (Cond.selects C y y).before args s = true := by
  obtain ⟨c1, r, m0, q1, q2, q3, q4, kP, hkP, hkPi⟩ := Cond.selects_spec (F.1.2.2.2.2 _ h0)
  obtain ⟨mk, methM, hnamed, hmethM, -, -⟩ := Cond.instanceMethod_spec (F.1.2.2.2.2 _ hi)
  have hfound : s.methodFound? y.cls y.name y.desc = some mk := State.methodFound?_of_named hnamed hy
  have hcls : mk.cls = m0.cls := Option.some.inj ((findClass_of_methodNamed hnamed).symm.trans (by rw [hc]; exact findClass_of_methodNamed q3))
  have hpriv : (Cond.privateMethod y).before args s = true := va_Nw.use rfl (F.2.2.1.1 _ hp rfl)
  have hsel : selectMethod {} s.vm c1 mk = .method mk := selectMethod_private hmethM (Cond.privateMethod_at hpriv mk methM hnamed hmethM)
  simp only [Cond.before, Cond.holds, Cond.value, q1, hfound, hnamed, hsel, hcls, hkP]
  simp
  exact hkPi
theorem cwP (F : mFx p m c cc nL s args own meth ret0 G A) {R rm : Room} {C : String} {y : MethodName} {b : ByteArray} {L index : Nat} {r : Option FieldType} (n : Nat) (h5 : Cond.code y b L r ∈ lw_all) (hlink : Cond.methodLink own index y ∈ lw_all) (hini : Cond.initialized y.cls ∈ lw_all) (hinst : Cond.instanceMethod y ∈ lw_all) (hsel : (Cond.selects C y y).before args s = true) (hd : y.cls ≠ "java/lang/invoke/MethodHandle" ∧ y.cls ≠ "java/lang/invoke/VarHandle" ∧ (parseMethodDescriptor y.desc).map (fun d => d.parameters.length) = some n) (hR : rm.frames + 1 ≤ R.frames ∧ 8 + (L + 11) + rm.locals ≤ R.locals) : CallW R s args own C index y b L r (ws_ y b L r) rm rm.cells rm.slots n :=
  ⟨callB_of n F.1.2.2.2.2 (lw_meth h5) rfl rfl rfl (F.1.2.2.2.2 _ hini) (F.1.2.2.2.2 _ hlink) hd hR, F.1.2.2.2.2 _ hinst, hsel⟩
end CSP
theorem sb_shrN (n : Nat) : nI n >>> (nI 0 &&& 31) = nI n := sb_shr0 _
theorem sb_shlN (n : Nat) : nI n <<< (nI 0 &&& 31) = nI n := sb_shl0 _
theorem sb_dle {a b : Nat} (h : a ≤ b) (hb : b < 2 ^ 30) : nI a - nI b ≤ 0 := by
  rw [Int32.le_iff_toInt_le, i_sub (A := 2 ^ 30) (B := 2 ^ 30 - 1) (bnd_nI (by omega) (by omega)) (bnd_nI (by omega) (by omega)) (by decide), nI_toInt (by omega), nI_toInt (by omega), Int32.toInt_zero]
  omega
theorem sb_all : ∀ c, c < 128 → (nI c).toInt8.toInt32 = nI c ∧ vp_nar .byte (nI c) = nI c ∧ nI c &&& nI 255 = nI c ∧ ((nI c).toUInt32 % 65536).toInt32 = nI c ∧ fits .byte (.int (nI c)) = true ∧ narrow .char (.int (nI c)) = .int (nI c) := by decide +kernel
theorem sb_fitV {a : Nat → Int32} {k : Nat} {x : Int32} (h : sb_Fit a) (hx : fits .byte (.int x) = true) : sb_Fit (va_up a k x) := by
  intro j
  unfold va_up
  by_cases e : j = k
  · rw [if_pos e]; exact hx
  · rw [if_neg e]; exact h j
theorem sb_lim {a : Nat} (h : a < 1000) : ¬ (2147483639 : Int32) < nI a := by
  rw [Int32.lt_iff_toInt_lt, nI_toInt (by omega)]
  have : (2147483639 : Int32).toInt = 2147483639 := by decide
  omega
theorem sb_lim2 {a : Nat} (h : a < 1000) : ¬ nI a = (2147483647 : Int32) := by
  intro q
  have := congrArg Int32.toInt q
  rw [nI_toInt (by omega)] at this
  have h2 : (2147483647 : Int32).toInt = 2147483647 := by decide
  omega
/-- cells of a stretch set to 0 -/
def va_zr (t : Nat → Int32) (a : Nat) (b : Nat) : Nat → Int32 := fun j => if a ≤ j ∧ j < b then nI 0 else t j
theorem va_zr0 (t : Nat → Int32) (a : Nat) : va_zr t a a = t := by
  funext j
  unfold va_zr
  rw [if_neg (by omega)]
theorem va_zrS {t : Nat → Int32} {a b : Nat} (h : a ≤ b) : va_up (va_zr t a b) b (nI 0) = va_zr t a (b + 1) := by
  funext j
  unfold va_zr va_up
  by_cases e : j = b
  · rw [if_pos e, if_pos (by omega)]
  · rw [if_neg e]
    by_cases e2 : a ≤ j ∧ j < b
    · exact (if_pos e2).trans (if_pos (by omega)).symm
    · exact (if_neg e2).trans (if_neg (by omega)).symm
theorem sb_fitZ {t : Nat → Int32} {a b : Nat} (h : sb_Fit t) : sb_Fit (va_zr t a b) := by
  intro j
  unfold va_zr
  split
  · exact (sb_all 0 (by decide)).2.2.2.2.1
  · exact h j
theorem mup_5 {M : mM} {u q : Nat} {e1 e2 o1 o2 : mE} (h : u ≠ q) : mup (mup (mup (mup M u e1) q o1) q o2) u e2 = mup (mup M u e2) q o2 := by
  rw [mup_mup, mup_sw (Ne.symm h), mup_mup]
