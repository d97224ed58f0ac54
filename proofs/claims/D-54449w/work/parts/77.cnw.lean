/-! NEW OBJECTS, CLONES -/
section CNW
variable {p : Program} {l : Launch} {e : Env} {R : Room} {s : State} {m : MethodId} {args : Array Value} {below : List Frame} {meth : Method} {c : Code} {H : Heap} {locs : List Loc} {cells slots : Nat} {Q : State → Prop}
variable {cc : ByteArray} {pc : Nat} {ls : Array Slot} {rest st : List Value} {G : mG} {A : Nat → Prop} {M M1 : mM} {nL : Nat} {own : String} {ret0 : Option FieldType}
theorem cn0 (F : mFx p m c cc nL s args own meth ret0 G A) (hM : mWd G A s.heap M H locs) {index : Nat} (hcl : Cond.classLink own index "DiskPacks" ∈ lw_all) (hcells : cells + 1 ≤ R.cells) (hslots : slots + 4 ≤ R.slots) (hdg : decode cc pc = .ok (.new index, 3))
    (kk : ∀ (q : Nat) (H1 : Heap), M q = none → mWd G A s.heap (mup M q (eO 0 [.null, .null, .null, .null])) H1 locs → W p l e R s m args below meth c H1 locs (cells + 1) (slots + 4) Q (F0 m (pc + 3) ls (.ref q :: rest))) : W p l e R s m args below meth c H locs cells slots Q (F0 m pc ls rest) :=
  mr_new F.1.1 F.1.2.1 F.1.2.2.2.2 in_X1 tyX1 tyX1_ok F.1.2.2.2.1 hcl q108 q70 F.2.1 hM F.2.2.2.2.1 (ci := 0) rfl (fun j hj => by
    have : j = 0 ∨ j = 1 ∨ j = 2 ∨ j = 3 := by omega
    rcases this with rfl | rfl | rfl | rfl <;> rfl) hcells hslots hdg (fun q H1 hq _ h1 => kk q H1 hq h1)
theorem cn1 (F : mFx p m c cc nL s args own meth ret0 G A) (hM : mWd G A s.heap M H locs) {index : Nat} (hcl : Cond.classLink own index "DiskPacks$State" ∈ lw_all) (hcells : cells + 1 ≤ R.cells) (hslots : slots + 7 ≤ R.slots) (hdg : decode cc pc = .ok (.new index, 3))
    (kk : ∀ (q : Nat) (H1 : Heap), M q = none → mWd G A s.heap (mup M q (eO 1 [.null, .null, .null, .null, .int 0, .int 0, .int 0])) H1 locs → W p l e R s m args below meth c H1 locs (cells + 1) (slots + 7) Q (F0 m (pc + 3) ls (.ref q :: rest))) : W p l e R s m args below meth c H locs cells slots Q (F0 m pc ls rest) :=
  mr_new F.1.1 F.1.2.1 F.1.2.2.2.2 in_X2 tyX2 tyX2_ok F.1.2.2.2.1 hcl q116 q71 F.2.1 hM F.2.2.2.2.1 (ci := 1) rfl (fun j hj => by
    have : j = 0 ∨ j = 1 ∨ j = 2 ∨ j = 3 ∨ j = 4 ∨ j = 5 ∨ j = 6 := by omega
    rcases this with rfl | rfl | rfl | rfl | rfl | rfl | rfl <;> rfl) hcells hslots hdg (fun q H1 hq _ h1 => kk q H1 hq h1)
theorem cn2 (F : mFx p m c cc nL s args own meth ret0 G A) (hM : mWd G A s.heap M H locs) {index : Nat} (hcl : Cond.classLink own index "DiskPacks$Drive" ∈ lw_all) (hcells : cells + 1 ≤ R.cells) (hslots : slots + 7 ≤ R.slots) (hdg : decode cc pc = .ok (.new index, 3))
    (kk : ∀ (q : Nat) (H1 : Heap), M q = none → mWd G A s.heap (mup M q (eO 2 [.null, .null, .null, .int 0, .int 0, .int 0, .int 0])) H1 locs → W p l e R s m args below meth c H1 locs (cells + 1) (slots + 7) Q (F0 m (pc + 3) ls (.ref q :: rest))) : W p l e R s m args below meth c H locs cells slots Q (F0 m pc ls rest) :=
  mr_new F.1.1 F.1.2.1 F.1.2.2.2.2 in_X3 tyX3 tyX3_ok F.1.2.2.2.1 hcl q149 q75 F.2.1 hM F.2.2.2.2.1 (ci := 2) rfl (fun j hj => by
    have : j = 0 ∨ j = 1 ∨ j = 2 ∨ j = 3 ∨ j = 4 ∨ j = 5 ∨ j = 6 := by omega
    rcases this with rfl | rfl | rfl | rfl | rfl | rfl | rfl <;> rfl) hcells hslots hdg (fun q H1 hq _ h1 => kk q H1 hq h1)
theorem cn3 (F : mFx p m c cc nL s args own meth ret0 G A) (hM : mWd G A s.heap M H locs) {index : Nat} (hcl : Cond.classLink own index "DiskPacks$ServoHead" ∈ lw_all) (hcells : cells + 1 ≤ R.cells) (hslots : slots + 3 ≤ R.slots) (hdg : decode cc pc = .ok (.new index, 3))
    (kk : ∀ (q : Nat) (H1 : Heap), M q = none → mWd G A s.heap (mup M q (eO 3 [.int 0, .int 0, .int 0])) H1 locs → W p l e R s m args below meth c H1 locs (cells + 1) (slots + 3) Q (F0 m (pc + 3) ls (.ref q :: rest))) : W p l e R s m args below meth c H locs cells slots Q (F0 m pc ls rest) :=
  mr_new F.1.1 F.1.2.1 F.1.2.2.2.2 in_X5 tyX5 tyX5_ok F.1.2.2.2.1 hcl q157 q77 F.2.1 hM F.2.2.2.2.1 (ci := 3) rfl (fun j hj => by
    have : j = 0 ∨ j = 1 ∨ j = 2 := by omega
    rcases this with rfl | rfl | rfl <;> rfl) hcells hslots hdg (fun q H1 hq _ h1 => kk q H1 hq h1)
theorem cn4 (F : mFx p m c cc nL s args own meth ret0 G A) (hM : mWd G A s.heap M H locs) {index : Nat} (hcl : Cond.classLink own index "DiskPacks$DataHead" ∈ lw_all) (hcells : cells + 1 ≤ R.cells) (hslots : slots + 3 ≤ R.slots) (hdg : decode cc pc = .ok (.new index, 3))
    (kk : ∀ (q : Nat) (H1 : Heap), M q = none → mWd G A s.heap (mup M q (eO 4 [.int 0, .int 0, .int 0])) H1 locs → W p l e R s m args below meth c H1 locs (cells + 1) (slots + 3) Q (F0 m (pc + 3) ls (.ref q :: rest))) : W p l e R s m args below meth c H locs cells slots Q (F0 m pc ls rest) :=
  mr_new F.1.1 F.1.2.1 F.1.2.2.2.2 in_X6 tyX6 tyX6_ok F.1.2.2.2.1 hcl q187 q78 F.2.1 hM F.2.2.2.2.1 (ci := 4) rfl (fun j hj => by
    have : j = 0 ∨ j = 1 ∨ j = 2 := by omega
    rcases this with rfl | rfl | rfl <;> rfl) hcells hslots hdg (fun q H1 hq _ h1 => kk q H1 hq h1)
theorem cn5 (F : mFx p m c cc nL s args own meth ret0 G A) (hM : mWd G A s.heap M H locs) {index : Nat} (hcl : Cond.classLink own index "DiskPacksModel" ∈ lw_all) (hcells : cells + 1 ≤ R.cells) (hslots : slots + 17 ≤ R.slots) (hdg : decode cc pc = .ok (.new index, 3))
    (kk : ∀ (q : Nat) (H1 : Heap), M q = none → mWd G A s.heap (mup M q (eO 5 [.null, .null, .null, .null, .int 0, .null, .null, .int 0, .null, .int 0, .int 0, .int 0, .int 0, .int 0, .int 0, .int 0, .int 0])) H1 locs → W p l e R s m args below meth c H1 locs (cells + 1) (slots + 17) Q (F0 m (pc + 3) ls (.ref q :: rest))) : W p l e R s m args below meth c H locs cells slots Q (F0 m pc ls rest) :=
  mr_new F.1.1 F.1.2.1 F.1.2.2.2.2 in_X7 tyX7 tyX7_ok F.1.2.2.2.1 hcl q1715 q88 F.2.1 hM F.2.2.2.2.1 (ci := 5) rfl (fun j hj => by
    have : j = 0 ∨ j = 1 ∨ j = 2 ∨ j = 3 ∨ j = 4 ∨ j = 5 ∨ j = 6 ∨ j = 7 ∨ j = 8 ∨ j = 9 ∨ j = 10 ∨ j = 11 ∨ j = 12 ∨ j = 13 ∨ j = 14 ∨ j = 15 ∨ j = 16 := by omega
    rcases this with rfl | rfl | rfl | rfl | rfl | rfl | rfl | rfl | rfl | rfl | rfl | rfl | rfl | rfl | rfl | rfl | rfl <;> rfl) hcells hslots hdg (fun q H1 hq _ h1 => kk q H1 hq h1)
theorem cn6 (F : mFx p m c cc nL s args own meth ret0 G A) (hM : mWd G A s.heap M H locs) {index : Nat} (hcl : Cond.classLink own index "DiskPacks$Pack" ∈ lw_all) (hcells : cells + 1 ≤ R.cells) (hslots : slots + 3 ≤ R.slots) (hdg : decode cc pc = .ok (.new index, 3))
    (kk : ∀ (q : Nat) (H1 : Heap), M q = none → mWd G A s.heap (mup M q (eO 6 [.int 0, .null, .int 0])) H1 locs → W p l e R s m args below meth c H1 locs (cells + 1) (slots + 3) Q (F0 m (pc + 3) ls (.ref q :: rest))) : W p l e R s m args below meth c H locs cells slots Q (F0 m pc ls rest) :=
  mr_new F.1.1 F.1.2.1 F.1.2.2.2.2 in_X8 tyX8 tyX8_ok F.1.2.2.2.1 hcl q1078 q94 F.2.1 hM F.2.2.2.2.1 (ci := 6) rfl (fun j hj => by
    have : j = 0 ∨ j = 1 ∨ j = 2 := by omega
    rcases this with rfl | rfl | rfl <;> rfl) hcells hslots hdg (fun q H1 hq _ h1 => kk q H1 hq h1)
theorem cn7 (F : mFx p m c cc nL s args own meth ret0 G A) (hM : mWd G A s.heap M H locs) {index : Nat} (hcl : Cond.classLink own index "DiskPacks$Surface" ∈ lw_all) (hcells : cells + 1 ≤ R.cells) (hslots : slots + 4 ≤ R.slots) (hdg : decode cc pc = .ok (.new index, 3))
    (kk : ∀ (q : Nat) (H1 : Heap), M q = none → mWd G A s.heap (mup M q (eO 7 [.null, .null, .null, .int 0])) H1 locs → W p l e R s m args below meth c H1 locs (cells + 1) (slots + 4) Q (F0 m (pc + 3) ls (.ref q :: rest))) : W p l e R s m args below meth c H locs cells slots Q (F0 m pc ls rest) :=
  mr_new F.1.1 F.1.2.1 F.1.2.2.2.2 in_X9 tyX9 tyX9_ok F.1.2.2.2.1 hcl q1090 q95 F.2.1 hM F.2.2.2.2.1 (ci := 7) rfl (fun j hj => by
    have : j = 0 ∨ j = 1 ∨ j = 2 ∨ j = 3 := by omega
    rcases this with rfl | rfl | rfl | rfl <;> rfl) hcells hslots hdg (fun q H1 hq _ h1 => kk q H1 hq h1)
theorem cn8 (F : mFx p m c cc nL s args own meth ret0 G A) (hM : mWd G A s.heap M H locs) {index : Nat} (hcl : Cond.classLink own index "DiskPacks$TextReader" ∈ lw_all) (hcells : cells + 1 ≤ R.cells) (hslots : slots + 5 ≤ R.slots) (hdg : decode cc pc = .ok (.new index, 3))
    (kk : ∀ (q : Nat) (H1 : Heap), M q = none → mWd G A s.heap (mup M q (eO 8 [.int 0, .int 0, .null, .int 0, .null])) H1 locs → W p l e R s m args below meth c H1 locs (cells + 1) (slots + 5) Q (F0 m (pc + 3) ls (.ref q :: rest))) : W p l e R s m args below meth c H locs cells slots Q (F0 m pc ls rest) :=
  mr_new F.1.1 F.1.2.1 F.1.2.2.2.2 in_X10 tyX10 tyX10_ok F.1.2.2.2.1 hcl q731 q106 F.2.1 hM F.2.2.2.2.1 (ci := 8) rfl (fun j hj => by
    have : j = 0 ∨ j = 1 ∨ j = 2 ∨ j = 3 ∨ j = 4 := by omega
    rcases this with rfl | rfl | rfl | rfl | rfl <;> rfl) hcells hslots hdg (fun q H1 hq _ h1 => kk q H1 hq h1)
theorem cn9 (F : mFx p m c cc nL s args own meth ret0 G A) (hM : mWd G A s.heap M H locs) {index : Nat} (hcl : Cond.classLink own index "java/util/ArrayList" ∈ lw_all) (hcells : cells + 1 ≤ R.cells) (hslots : slots + 3 ≤ R.slots) (hdg : decode cc pc = .ok (.new index, 3))
    (kk : ∀ (q : Nat) (H1 : Heap), M q = none → mWd G A s.heap (mup M q (eO 9 [.int 0, .null, .int 0])) H1 locs → W p l e R s m args below meth c H1 locs (cells + 1) (slots + 3) Q (F0 m (pc + 3) ls (.ref q :: rest))) : W p l e R s m args below meth c H locs cells slots Q (F0 m pc ls rest) :=
  mr_new F.1.1 F.1.2.1 F.1.2.2.2.2 in_J2 tyJ2 tyJ2_ok F.1.2.2.2.1 hcl q124 q74 F.2.1 hM F.2.2.2.2.1 (ci := 9) rfl (fun j hj => by
    have : j = 0 ∨ j = 1 ∨ j = 2 := by omega
    rcases this with rfl | rfl | rfl <;> rfl) hcells hslots hdg (fun q H1 hq _ h1 => kk q H1 hq h1)
theorem cn10 (F : mFx p m c cc nL s args own meth ret0 G A) (hM : mWd G A s.heap M H locs) {index : Nat} (hcl : Cond.classLink own index "java/util/ArrayDeque" ∈ lw_all) (hcells : cells + 1 ≤ R.cells) (hslots : slots + 3 ≤ R.slots) (hdg : decode cc pc = .ok (.new index, 3))
    (kk : ∀ (q : Nat) (H1 : Heap), M q = none → mWd G A s.heap (mup M q (eO 10 [.null, .int 0, .int 0])) H1 locs → W p l e R s m args below meth c H1 locs (cells + 1) (slots + 3) Q (F0 m (pc + 3) ls (.ref q :: rest))) : W p l e R s m args below meth c H locs cells slots Q (F0 m pc ls rest) :=
  mr_new F.1.1 F.1.2.1 F.1.2.2.2.2 in_J8 tyJ8 tyJ8_ok F.1.2.2.2.1 hcl q336 q84 F.2.1 hM F.2.2.2.2.1 (ci := 10) rfl (fun j hj => by
    have : j = 0 ∨ j = 1 ∨ j = 2 := by omega
    rcases this with rfl | rfl | rfl <;> rfl) hcells hslots hdg (fun q H1 hq _ h1 => kk q H1 hq h1)
theorem cn11 (F : mFx p m c cc nL s args own meth ret0 G A) (hM : mWd G A s.heap M H locs) {index : Nat} (hcl : Cond.classLink own index "java/lang/StringBuilder" ∈ lw_all) (hcells : cells + 1 ≤ R.cells) (hslots : slots + 4 ≤ R.slots) (hdg : decode cc pc = .ok (.new index, 3))
    (kk : ∀ (q : Nat) (H1 : Heap), M q = none → mWd G A s.heap (mup M q (eO 11 [.null, .int 0, .int 0, .int 0])) H1 locs → W p l e R s m args below meth c H1 locs (cells + 1) (slots + 4) Q (F0 m (pc + 3) ls (.ref q :: rest))) : W p l e R s m args below meth c H locs cells slots Q (F0 m pc ls rest) :=
  mr_new F.1.1 F.1.2.1 F.1.2.2.2.2 in_J10 tyJ10 tyJ10_ok F.1.2.2.2.1 hcl q354 q86 F.2.1 hM F.2.2.2.2.1 (ci := 11) rfl (fun j hj => by
    have : j = 0 ∨ j = 1 ∨ j = 2 ∨ j = 3 := by omega
    rcases this with rfl | rfl | rfl | rfl <;> rfl) hcells hslots hdg (fun q H1 hq _ h1 => kk q H1 hq h1)
theorem ca_slots {cA : ClassId} {n : Nat} {g : Nat → Value} {i : Nat} {v : Value} (h : (arrV cA n g).slots[i]? = some v) : ∃ j, v = g j := by
  unfold arrV at h
  dsimp only at h
  rw [Array.getElem?_ofFn] at h
  split at h
  · cases h
    exact ⟨_, rfl⟩
  · cases h
theorem mr_clone (F : mFx p m c cc nL s args own meth ret0 G A) (hM : mWd G A s.heap M H locs) {nm : String} {index a : Nat} (hlink : Cond.methodLink own index ⟨nm, "clone", "()Ljava/lang/Object;"⟩ ∈ lw_all) (hsame : Cond.sameMethod nm "java/lang/Object" "clone" "()Ljava/lang/Object;" ∈ lw_all) (hinst : Cond.instanceMethod ⟨"java/lang/Object", "clone", "()Ljava/lang/Object;"⟩ ∈ lw_all) (hsel : Cond.selects nm ⟨nm, "clone", "()Ljava/lang/Object;"⟩ ⟨"java/lang/Object", "clone", "()Ljava/lang/Object;"⟩ ∈ lw_all) (hcl : Cond.castable nm "java/lang/Cloneable" ∈ lw_tbl)
    (t0 : Nat) {cA : ClassId} {x : vp_A} {ty : FieldType} (ha : M a = some (.inl (.inl (cA, x)))) (ht : (mtys G)[t0]? = some (cA, ty)) (hnm : s.vm.findClass nm = some cA) (hfit : ∀ (i : Nat) (v : Value), (vp_cell cA x).slots[i]? = some v → fits ty v = true) (hsize : ls.size = nL)
    (hframes : 1 ≤ R.frames) (hlocals : (rest.map fun v => v.category).sum + 14 ≤ R.locals) (hcells : cells + 1 ≤ R.cells) (hslots : slots + x.1 ≤ R.slots) (hdg : decode cc pc = .ok (.invokevirtual index, 3))
    (kk : ∀ (q : Nat) (H1 : Heap), M q = none → mWd G A s.heap (mup M q (.inl (.inl (cA, x)))) H1 locs → W p l e R s m args below meth c H1 locs (cells + 1) (slots + x.1) Q (F0 m (pc + 3) ls (.ref q :: rest))) : W p l e R s m args below meth c H locs cells slots Q (F0 m pc ls (.ref a :: rest)) := by
  have hsz : (vp_cell cA x).slots.size = x.1 := by
    obtain ⟨n, f | f | f | f | f⟩ := x <;> exact arrV_size _ _ _
  have hvm0 : (vp_cell cA x).vm = .none := by
    obtain ⟨n, f | f | f | f | f⟩ := x <;> rfl
  have hcl0 : (vp_cell cA x).cls = cA := by
    obtain ⟨n, f | f | f | f | f⟩ := x <;> rfl
  have hcellE : ({ cls := (vp_cell cA x).cls, slots := (vp_cell cA x).slots } : Cell) = vp_cell cA x := by
    obtain ⟨n, f | f | f | f | f⟩ := x <;> rfl
  obtain ⟨c0, t0', f1, f2, f3⟩ := Cond.castable_spec (va_Nw.use (A := args) rfl (F.2.2.1.1 _ hcl rfl))
  cases hnm.symm.trans f1
  intro T hT X
  have hcellT : T.heap[a]? = some (vp_cell cA x) := by rw [hT]; exact hM.1 a _ ha
  obtain ⟨-, kA, hkA, comp, hkind⟩ := State.isArrayOf_alike X.warmed.alike ((F.2.1.2 t0 _ ht).1 0 (fun _ => .null))
  obtain ⟨-, kS, hkS, compS, hkindS⟩ := (F.2.1.2 t0 _ ht).1 0 (fun _ => .null)
  obtain ⟨vm', X', st⟩ := X.cloneArray F.1.1 F.1.2.2.2.1 (F.1.2.2.2.2 _ hlink) (F.1.2.2.2.2 _ hsame) (F.1.2.2.2.2 _ q497) (F.1.2.2.2.2 _ hinst) (F.1.2.2.2.2 _ hsel) (a := a) (cell := vp_cell cA x) hcellT (fun k h => by rw [hvm0] at h; cases h) (by rw [hvm0]; exact fun h => by cases h) (by rw [hcl0]; exact hnm) f2 (by rw [hcl0]; exact f3)
    (fun i v hv => by
      rw [hcl0]
      have hk' : T.vm.classes[cA]? = some kA := hkA
      simpa [State.fitsSlot, State.slotType?, hk', hkind] using hfit i v hv)
    (g := F0 m pc ls (.ref a :: rest)) rfl (hsize.trans F.1.2.2.1.symm) rfl (by rw [F.1.2.1]; exact hdg) hframes (by show 2 * 0 + _ + 14 ≤ _; omega) hcells (by rw [hsz]; exact hslots) (hloader := by rw [hcl0]; exact Vm.clonesLoader_of_array hkS hkindS)
  rw [hcellE, hsz] at X'
  subst hT
  have hM1 : mWd G A s.heap (mup M T.heap.size (.inl (.inl (cA, x)))) (T.heap.push (vp_cell cA x)) locs := hM.push F.2.2.2.2.1 (by rw [Array.size_push]) (fun q hq => by rw [Array.getElem?_push, if_neg (Nat.ne_of_lt hq)]) (by show (T.heap.push _)[T.heap.size]? = some (vp_cell cA x); rw [Array.getElem?_push_size])
  obtain ⟨t, b1, b2⟩ := kk T.heap.size _ hM.fresh hM1 ((T.setVm vm').pushCell (vp_cell cA x)) rfl X'
  refine ⟨t, st t ?_, b2⟩
  rw [hcellE]
  exact b1
theorem mr_cloneI (F : mFx p m c cc nL s args own meth ret0 G A) (hM : mWd G A s.heap M H locs) {index a n : Nat} {f : Nat → Int32} (hlink : Cond.methodLink own index ⟨"[I", "clone", "()Ljava/lang/Object;"⟩ ∈ lw_all) (ha : M a = some (eI (G.2.1 0) n f)) (hsize : ls.size = nL)
    (hframes : 1 ≤ R.frames) (hlocals : (rest.map fun v => v.category).sum + 14 ≤ R.locals) (hcells : cells + 1 ≤ R.cells) (hslots : slots + n ≤ R.slots) (hdg : decode cc pc = .ok (.invokevirtual index, 3))
    (kk : ∀ (q : Nat) (H1 : Heap), M q = none → mWd G A s.heap (mup M q (eI (G.2.1 0) n f)) H1 locs → W p l e R s m args below meth c H1 locs (cells + 1) (slots + n) Q (F0 m (pc + 3) ls (.ref q :: rest))) : W p l e R s m args below meth c H locs cells slots Q (F0 m pc ls (.ref a :: rest)) :=
  mr_clone F hM hlink q1040 q498 q1041 q1042 0 ha rfl (F.2.1.2 0 _ rfl).2 (fun i v h => by
    obtain ⟨j, rfl⟩ := ca_slots h
    rfl) hsize hframes hlocals hcells hslots hdg kk
theorem mr_cloneF (F : mFx p m c cc nL s args own meth ret0 G A) (hM : mWd G A s.heap M H locs) {index a n : Nat} {f : Nat → UInt32} (hlink : Cond.methodLink own index ⟨"[F", "clone", "()Ljava/lang/Object;"⟩ ∈ lw_all) (ha : M a = some (eF (G.2.1 1) n f)) (hsize : ls.size = nL)
    (hframes : 1 ≤ R.frames) (hlocals : (rest.map fun v => v.category).sum + 14 ≤ R.locals) (hcells : cells + 1 ≤ R.cells) (hslots : slots + n ≤ R.slots) (hdg : decode cc pc = .ok (.invokevirtual index, 3))
    (kk : ∀ (q : Nat) (H1 : Heap), M q = none → mWd G A s.heap (mup M q (eF (G.2.1 1) n f)) H1 locs → W p l e R s m args below meth c H1 locs (cells + 1) (slots + n) Q (F0 m (pc + 3) ls (.ref q :: rest))) : W p l e R s m args below meth c H locs cells slots Q (F0 m pc ls (.ref a :: rest)) :=
  mr_clone F hM hlink q1098 q498 q1099 q1100 1 ha rfl (F.2.1.2 1 _ rfl).2 (fun i v h => by
    obtain ⟨j, rfl⟩ := ca_slots h
    rfl) hsize hframes hlocals hcells hslots hdg kk
theorem mr_castAI (F : mFx p m c cc nL s args own meth ret0 G A) (hM : mWd G A s.heap M H locs) {index a n : Nat} {f : Nat → Int32} (hlink : Cond.classLink own index "[I" ∈ lw_all) (ha : M a = some (eI (G.2.1 0) n f)) (hdg : decode cc pc = .ok (.checkcast index, 3))
    (k : W p l e R s m args below meth c H locs cells slots Q (F0 m (pc + 3) ls (.ref a :: rest))) : W p l e R s m args below meth c H locs cells slots Q (F0 m pc ls (.ref a :: rest)) :=
  va_castA F.1.1 F.1.2.1 F.1.2.2.2.1 (F.1.2.2.2.2 _ hlink) (hM.sing ha) 0 rfl (F.2.1.2 0 _ rfl).2 hdg k
theorem mr_castAF (F : mFx p m c cc nL s args own meth ret0 G A) (hM : mWd G A s.heap M H locs) {index a n : Nat} {f : Nat → UInt32} (hlink : Cond.classLink own index "[F" ∈ lw_all) (ha : M a = some (eF (G.2.1 1) n f)) (hdg : decode cc pc = .ok (.checkcast index, 3))
    (k : W p l e R s m args below meth c H locs cells slots Q (F0 m (pc + 3) ls (.ref a :: rest))) : W p l e R s m args below meth c H locs cells slots Q (F0 m pc ls (.ref a :: rest)) :=
  va_castA F.1.1 F.1.2.1 F.1.2.2.2.1 (F.1.2.2.2.2 _ hlink) (hM.sing ha) 0 rfl (F.2.1.2 1 _ rfl).2 hdg k
end CNW
