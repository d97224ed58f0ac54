/-! LAMBDAS: calls of reasons and orders, by the made classes' forms -/
theorem lam_fld {G : mG} {s T : State} {args : Array Value} (hts : ∀ w ∈ lw_all, w.before args s = true) (hL : mLam G.2.1 s) (hWT : s.WarmedH T.vm) {k pc0 ix0 : Nat} {x0 : MethodName} {σ : Jvm.Lambda.Shape} (hq : mSites[k]? = some (x0, pc0, ix0, σ)) {fc : List UInt8} {fl mi ci cu nt : Nat} {fix : List Nat} (hok : lamOk σ x0.cls fc fl fix mi ci cu nt = true) :
    ∀ j i : Nat, fix[j]? = some i → ∃ f : Field, T.vm.fieldReady (G.2.1 (20 + k)) i (G.2.1 (20 + k)) f ∧ f.isStatic = false ∧ f.slot = j := by
  obtain ⟨m0, kS, cfS, i0, p0, hm0, hkS, -, -, -, hmade, -⟩ := (hL k _ hq).warm hWT
  obtain ⟨kS', hkS', hnameS⟩ := className_of_methodNamed hm0
  cases hkS.symm.trans hkS'
  have hO : (Cond.instantiable "java/lang/Object" 0).before args T = true := pay_in hts (fun w hw => lw_self w hw) _ q2201 args T hWT
  obtain ⟨kK, tk, methk, ck, t0, t, found, iface, -, -, -, -, -, -, -, -, -, -, -, -, -, -, -, -, hfld, -⟩ := lam_facts (args := args) hmade hkS hO (by rw [hnameS]; exact hok)
  exact hfld
section LMT
variable {p : Program} {l : Launch} {e : Env} {R : Room} {s : State} {m : MethodId} {args : Array Value} {below : List Frame} {meth : Method} {c : Code} {H : Heap} {locs : List Loc} {cells slots : Nat} {Q : State → Prop}
variable {cc : ByteArray} {pc : Nat} {ls : Array Slot} {rest st : List Value} {G : mG} {A : Nat → Prop} {M M1 : mM} {nL : Nat} {own : String} {ret0 : Option FieldType}
theorem mc_R2 (F : mFx p m c cc nL s args own meth ret0 G A) (hM : mWd G A s.heap M H locs) {k a pc0 ix0 ci cu nt : Nat} {bo : Nat} {v0 : Int32} {x0 : MethodName} {σ : Jvm.Lambda.Shape} (hq : mSites[k]? = some (x0, pc0, ix0, σ)) (he : M a = some (.inr (lamC (G.2.1 (20 + k)) [.ref bo, .int v0]))) (hok : lamOk σ x0.cls [42, 180, 0, 17, 42, 180, 0, 19, 182, 0, 27, 172] 1 [17, 19] 27 ci cu nt = true) (hitf : σ.implItf = false)
    (hxi : (⟨"DiskPacks$Reason", "holds", "()Z"⟩ : MethodName) = ⟨σ.iface, σ.name, σ.sam.toString⟩) {index count : Nat} (hlink : Cond.methodLink own index ⟨"DiskPacks$Reason", "holds", "()Z"⟩ ∈ lw_all) (hx0 : plainName (x0.cls ++ "$$Lambda") = true)
    {y : MethodName} (hy : y = ⟨σ.implClass, σ.implName, σ.implDesc.toString⟩) (hy9 : y.cls ≠ "java/lang/invoke/MethodHandle" ∧ y.cls ≠ "java/lang/invoke/VarHandle") {bytes : ByteArray} {maxL : Nat} {rm : Room} {ci2 : Nat} {C : String} {fs : List Value} {qc : vw_C} (hbo : M bo = some (eO ci2 fs)) (hqc : vwCl[ci2]? = some qc) (hqC : qc.1 = C) {Pre : mM → Prop} {w : Int32} (hw : w = nI 0 ∨ w = nI 1) (hC : mMet l y (ws_ y bytes maxL (some .boolean)) rm (.ref bo :: [.int v0]) G Pre (pPost M1 (some (.int w)))) (hpre : Pre M)
    (hcode : Cond.code y bytes maxL (some .boolean) ∈ lw_all) (hinst : Cond.instanceMethod y ∈ lw_all) (hsel : Cond.selects C y y ∈ lw_all) (hini : Cond.initialized y.cls ∈ lw_all) (hlen : ∀ sig, parseMethodDescriptor y.desc = some sig → 1 = sig.parameters.length) (hml : maxL ≤ 40)
    (hsize : ls.size = nL) (hst : st = .ref a :: rest) (hW : (rest.map fun v => v.category).sum ≤ 8) (hdg : decode cc pc = .ok (.invokeinterface index count, 5)) (r1 : rm.frames + 2 ≤ R.frames) (r2 : rm.locals + 100 ≤ R.locals) (hf : cells + rm.cells ≤ R.cells ∧ slots + rm.slots ≤ R.slots)
    (kk : ∀ (H1 : Heap) (locs1 : List Loc), mWd G A s.heap M1 H1 locs1 → W p l e R s m args below meth c H1 locs1 (cells + rm.cells) (slots + rm.slots) Q (F0 m (pc + 5) ls (.int w :: rest))) : W p l e R s m args below meth c H locs cells slots Q (F0 m pc ls st) := by
  refine mc_run5 (rm := lamR rm) (Post := fun _ => pPost M1 (some (.int w)) M) (lam_run (below := below) (count := count) (ls := ls) (pc := pc) (cells := cells) (slots := slots) (R := R) (l := l) (p := p) (e := e) (As := []) (st := st) (rest := rest) (index := index) (R' := lamR rm) (Post := fun _ => pPost M1 (some (.int w)) M) F hM hq he hok hxi (by decide +kernel) (by decide +kernel) hlink hx0 (fun sig h => by
      have h2 : parseMethodDescriptor (⟨"DiskPacks$Reason", "holds", "()Z"⟩ : MethodName).desc = some sig := h
      have h3 : (parseMethodDescriptor (⟨"DiskPacks$Reason", "holds", "()Z"⟩ : MethodName).desc).map (fun d => d.parameters.length) = some 0 := by decide +kernel
      rw [h2] at h3
      exact (Option.some.inj h3).symm) hsize hst hW hdg (by show rm.frames + 1 + 1 ≤ R.frames; omega) (by show 8 + (1 + 11) + (rm.locals + 60) ≤ R.locals; omega) hf.1 hf.2 (fun sI methk ck belowI hin => ?_)) F.2.2.2.2.1 hM (fun r M2 H1 locs1 hP h1 _ => ?_)
  case refine_2 =>
    obtain ⟨rfl, rfl⟩ := hP
    exact kk H1 locs1 h1
  case refine_1 =>
    have hl := lv_entry (Value.ref a :: []) (n := 1) (Nat.le_of_ble_eq_true rfl)
    rw [lg_entry_eq]
    revert hl
    generalize ((lg_sl (Value.ref a :: []) ++ List.replicate (1 - (lg_sl (Value.ref a :: [])).length) Slot.unset).toArray) = lsI
    intro hl
    have hWs := hin.2.1
    have hb := lam_bytes hin.2.2.1
    refine lv_aload_n F.1.1 hb (show decode ⟨⟨[42, 180, 0, 17, 42, 180, 0, 19, 182, 0, 27, 172]⟩⟩ 0 = .ok (.aload_n 0, 1) by decide +kernel) rfl (lv_at hl 0 rfl) ?_
    refine wr_get F.1.1 hb (index := 17) (j := 0) (fun T hT => lam_fld F.1.2.2.2.2 F.2.2.1.2.2 (hWs.trans hT) hq hok 0 17 rfl) (hM.1 a _ he) (fun h => by cases h) rfl (show decode ⟨⟨[42, 180, 0, 17, 42, 180, 0, 19, 182, 0, 27, 172]⟩⟩ 1 = .ok (.getfield 17, 3) by decide +kernel) ?_
    refine lv_aload_n F.1.1 hb (show decode ⟨⟨[42, 180, 0, 17, 42, 180, 0, 19, 182, 0, 27, 172]⟩⟩ 4 = .ok (.aload_n 0, 1) by decide +kernel) rfl (lv_at hl 0 rfl) ?_
    refine wr_get F.1.1 hb (index := 19) (j := 1) (fun T hT => lam_fld F.1.2.2.2.2 F.2.2.1.2.2 (hWs.trans hT) hq hok 1 19 rfl) (hM.1 a _ he) (fun h => by cases h) rfl (show decode ⟨⟨[42, 180, 0, 17, 42, 180, 0, 19, 182, 0, 27, 172]⟩⟩ 5 = .ok (.getfield 19, 3) by decide +kernel) ?_
    exact lam_V F hM hq hok hitf hin hy hy9 hbo hqc hqC hw hC hpre hcode hinst hsel hini hlen hml (lsI := lsI) hl.1 (show decode ⟨⟨[42, 180, 0, 17, 42, 180, 0, 19, 182, 0, 27, 172]⟩⟩ 8 = .ok (.invokevirtual 27, 3) by decide +kernel) (show decode ⟨⟨[42, 180, 0, 17, 42, 180, 0, 19, 182, 0, 27, 172]⟩⟩ (8 + 3) = .ok (.ireturn, 1) by decide +kernel)
theorem mc_R1 (F : mFx p m c cc nL s args own meth ret0 G A) (hM : mWd G A s.heap M H locs) {k a pc0 ix0 ci cu nt : Nat} {bo : Nat} {x0 : MethodName} {σ : Jvm.Lambda.Shape} (hq : mSites[k]? = some (x0, pc0, ix0, σ)) (he : M a = some (.inr (lamC (G.2.1 (20 + k)) [.ref bo]))) (hok : lamOk σ x0.cls [42, 180, 0, 15, 182, 0, 22, 172] 1 [15] 22 ci cu nt = true) (hitf : σ.implItf = false)
    (hxi : (⟨"DiskPacks$Reason", "holds", "()Z"⟩ : MethodName) = ⟨σ.iface, σ.name, σ.sam.toString⟩) {index count : Nat} (hlink : Cond.methodLink own index ⟨"DiskPacks$Reason", "holds", "()Z"⟩ ∈ lw_all) (hx0 : plainName (x0.cls ++ "$$Lambda") = true)
    {y : MethodName} (hy : y = ⟨σ.implClass, σ.implName, σ.implDesc.toString⟩) (hy9 : y.cls ≠ "java/lang/invoke/MethodHandle" ∧ y.cls ≠ "java/lang/invoke/VarHandle") {bytes : ByteArray} {maxL : Nat} {rm : Room} {ci2 : Nat} {C : String} {fs : List Value} {qc : vw_C} (hbo : M bo = some (eO ci2 fs)) (hqc : vwCl[ci2]? = some qc) (hqC : qc.1 = C) {Pre : mM → Prop} {w : Int32} (hw : w = nI 0 ∨ w = nI 1) (hC : mMet l y (ws_ y bytes maxL (some .boolean)) rm (.ref bo :: []) G Pre (pPost M1 (some (.int w)))) (hpre : Pre M)
    (hcode : Cond.code y bytes maxL (some .boolean) ∈ lw_all) (hinst : Cond.instanceMethod y ∈ lw_all) (hsel : Cond.selects C y y ∈ lw_all) (hini : Cond.initialized y.cls ∈ lw_all) (hlen : ∀ sig, parseMethodDescriptor y.desc = some sig → 0 = sig.parameters.length) (hml : maxL ≤ 40)
    (hsize : ls.size = nL) (hst : st = .ref a :: rest) (hW : (rest.map fun v => v.category).sum ≤ 8) (hdg : decode cc pc = .ok (.invokeinterface index count, 5)) (r1 : rm.frames + 2 ≤ R.frames) (r2 : rm.locals + 100 ≤ R.locals) (hf : cells + rm.cells ≤ R.cells ∧ slots + rm.slots ≤ R.slots)
    (kk : ∀ (H1 : Heap) (locs1 : List Loc), mWd G A s.heap M1 H1 locs1 → W p l e R s m args below meth c H1 locs1 (cells + rm.cells) (slots + rm.slots) Q (F0 m (pc + 5) ls (.int w :: rest))) : W p l e R s m args below meth c H locs cells slots Q (F0 m pc ls st) := by
  refine mc_run5 (rm := lamR rm) (Post := fun _ => pPost M1 (some (.int w)) M) (lam_run (below := below) (count := count) (ls := ls) (pc := pc) (cells := cells) (slots := slots) (R := R) (l := l) (p := p) (e := e) (As := []) (st := st) (rest := rest) (index := index) (R' := lamR rm) (Post := fun _ => pPost M1 (some (.int w)) M) F hM hq he hok hxi (by decide +kernel) (by decide +kernel) hlink hx0 (fun sig h => by
      have h2 : parseMethodDescriptor (⟨"DiskPacks$Reason", "holds", "()Z"⟩ : MethodName).desc = some sig := h
      have h3 : (parseMethodDescriptor (⟨"DiskPacks$Reason", "holds", "()Z"⟩ : MethodName).desc).map (fun d => d.parameters.length) = some 0 := by decide +kernel
      rw [h2] at h3
      exact (Option.some.inj h3).symm) hsize hst hW hdg (by show rm.frames + 1 + 1 ≤ R.frames; omega) (by show 8 + (1 + 11) + (rm.locals + 60) ≤ R.locals; omega) hf.1 hf.2 (fun sI methk ck belowI hin => ?_)) F.2.2.2.2.1 hM (fun r M2 H1 locs1 hP h1 _ => ?_)
  case refine_2 =>
    obtain ⟨rfl, rfl⟩ := hP
    exact kk H1 locs1 h1
  case refine_1 =>
    have hl := lv_entry (Value.ref a :: []) (n := 1) (Nat.le_of_ble_eq_true rfl)
    rw [lg_entry_eq]
    revert hl
    generalize ((lg_sl (Value.ref a :: []) ++ List.replicate (1 - (lg_sl (Value.ref a :: [])).length) Slot.unset).toArray) = lsI
    intro hl
    have hWs := hin.2.1
    have hb := lam_bytes hin.2.2.1
    refine lv_aload_n F.1.1 hb (show decode ⟨⟨[42, 180, 0, 15, 182, 0, 22, 172]⟩⟩ 0 = .ok (.aload_n 0, 1) by decide +kernel) rfl (lv_at hl 0 rfl) ?_
    refine wr_get F.1.1 hb (index := 15) (j := 0) (fun T hT => lam_fld F.1.2.2.2.2 F.2.2.1.2.2 (hWs.trans hT) hq hok 0 15 rfl) (hM.1 a _ he) (fun h => by cases h) rfl (show decode ⟨⟨[42, 180, 0, 15, 182, 0, 22, 172]⟩⟩ 1 = .ok (.getfield 15, 3) by decide +kernel) ?_
    exact lam_V F hM hq hok hitf hin hy hy9 hbo hqc hqC hw hC hpre hcode hinst hsel hini hlen hml (lsI := lsI) hl.1 (show decode ⟨⟨[42, 180, 0, 15, 182, 0, 22, 172]⟩⟩ 4 = .ok (.invokevirtual 22, 3) by decide +kernel) (show decode ⟨⟨[42, 180, 0, 15, 182, 0, 22, 172]⟩⟩ (4 + 3) = .ok (.ireturn, 1) by decide +kernel)
theorem mc_O1 (F : mFx p m c cc nL s args own meth ret0 G A) (hM : mWd G A s.heap M H locs) {k a pc0 ix0 ci cu nt : Nat} {z : Nat} {v0 : Int32} {x0 : MethodName} {σ : Jvm.Lambda.Shape} (hq : mSites[k]? = some (x0, pc0, ix0, σ)) (he : M a = some (.inr (lamC (G.2.1 (20 + k)) [.int v0]))) (hok : lamOk σ x0.cls [42, 180, 0, 15, 43, 184, 0, 23, 172] 2 [15] 23 ci cu nt = true) (hitf : σ.implItf = false)
    (hxi : (⟨"DiskPacks$Order", "carryOut", "(LDiskPacks$State;)Z"⟩ : MethodName) = ⟨σ.iface, σ.name, σ.sam.toString⟩) {index count : Nat} (hlink : Cond.methodLink own index ⟨"DiskPacks$Order", "carryOut", "(LDiskPacks$State;)Z"⟩ ∈ lw_all) (hx0 : plainName (x0.cls ++ "$$Lambda") = true)
    {y : MethodName} (hy : y = ⟨σ.implClass, σ.implName, σ.implDesc.toString⟩) (hy9 : y.cls ≠ "java/lang/invoke/MethodHandle" ∧ y.cls ≠ "java/lang/invoke/VarHandle") {bytes : ByteArray} {maxL : Nat} {rm : Room} {Pre : mM → Prop} {w : Int32} (hw : w = nI 0 ∨ w = nI 1) (hC : mMet l y (ws_ y bytes maxL (some .boolean)) rm [.int v0, .ref z] G Pre (pPost M1 (some (.int w)))) (hpre : Pre M)
    (hcode : Cond.code y bytes maxL (some .boolean) ∈ lw_all) (hstat : Cond.static y ∈ lw_all) (hini : Cond.initialized y.cls ∈ lw_all) (hlen : ∀ sig, parseMethodDescriptor y.desc = some sig → 2 = sig.parameters.length) (hml : maxL ≤ 40)
    (hsize : ls.size = nL) (hst : st = .ref z :: .ref a :: rest) (hW : (rest.map fun v => v.category).sum ≤ 8) (hdg : decode cc pc = .ok (.invokeinterface index count, 5)) (r1 : rm.frames + 2 ≤ R.frames) (r2 : rm.locals + 100 ≤ R.locals) (hf : cells + rm.cells ≤ R.cells ∧ slots + rm.slots ≤ R.slots)
    (kk : ∀ (H1 : Heap) (locs1 : List Loc), mWd G A s.heap M1 H1 locs1 → W p l e R s m args below meth c H1 locs1 (cells + rm.cells) (slots + rm.slots) Q (F0 m (pc + 5) ls (.int w :: rest))) : W p l e R s m args below meth c H locs cells slots Q (F0 m pc ls st) := by
  refine mc_run5 (rm := lamR rm) (Post := fun _ => pPost M1 (some (.int w)) M) (lam_run (below := below) (count := count) (ls := ls) (pc := pc) (cells := cells) (slots := slots) (R := R) (l := l) (p := p) (e := e) (As := [.ref z]) (st := st) (rest := rest) (index := index) (R' := lamR rm) (Post := fun _ => pPost M1 (some (.int w)) M) F hM hq he hok hxi (by decide +kernel) (by decide +kernel) hlink hx0 (fun sig h => by
      have h2 : parseMethodDescriptor (⟨"DiskPacks$Order", "carryOut", "(LDiskPacks$State;)Z"⟩ : MethodName).desc = some sig := h
      have h3 : (parseMethodDescriptor (⟨"DiskPacks$Order", "carryOut", "(LDiskPacks$State;)Z"⟩ : MethodName).desc).map (fun d => d.parameters.length) = some 1 := by decide +kernel
      rw [h2] at h3
      exact (Option.some.inj h3).symm) hsize hst hW hdg (by show rm.frames + 1 + 1 ≤ R.frames; omega) (by show 8 + (2 + 11) + (rm.locals + 60) ≤ R.locals; omega) hf.1 hf.2 (fun sI methk ck belowI hin => ?_)) F.2.2.2.2.1 hM (fun r M2 H1 locs1 hP h1 _ => ?_)
  case refine_2 =>
    obtain ⟨rfl, rfl⟩ := hP
    exact kk H1 locs1 h1
  case refine_1 =>
    have hl := lv_entry (Value.ref a :: [.ref z]) (n := 2) (Nat.le_of_ble_eq_true rfl)
    rw [lg_entry_eq]
    revert hl
    generalize ((lg_sl (Value.ref a :: [.ref z]) ++ List.replicate (2 - (lg_sl (Value.ref a :: [.ref z])).length) Slot.unset).toArray) = lsI
    intro hl
    have hWs := hin.2.1
    have hb := lam_bytes hin.2.2.1
    refine lv_aload_n F.1.1 hb (show decode ⟨⟨[42, 180, 0, 15, 43, 184, 0, 23, 172]⟩⟩ 0 = .ok (.aload_n 0, 1) by decide +kernel) rfl (lv_at hl 0 rfl) ?_
    refine wr_get F.1.1 hb (index := 15) (j := 0) (fun T hT => lam_fld F.1.2.2.2.2 F.2.2.1.2.2 (hWs.trans hT) hq hok 0 15 rfl) (hM.1 a _ he) (fun h => by cases h) rfl (show decode ⟨⟨[42, 180, 0, 15, 43, 184, 0, 23, 172]⟩⟩ 1 = .ok (.getfield 15, 3) by decide +kernel) ?_
    refine lv_aload_n F.1.1 hb (show decode ⟨⟨[42, 180, 0, 15, 43, 184, 0, 23, 172]⟩⟩ 4 = .ok (.aload_n 1, 1) by decide +kernel) rfl (lv_at hl 1 rfl) ?_
    exact lam_S F hM hq hok hitf hin hy hy9 hw hC hpre hcode hstat hini hlen hml (lsI := lsI) hl.1 (show decode ⟨⟨[42, 180, 0, 15, 43, 184, 0, 23, 172]⟩⟩ 5 = .ok (.invokestatic 23, 3) by decide +kernel) (show decode ⟨⟨[42, 180, 0, 15, 43, 184, 0, 23, 172]⟩⟩ (5 + 3) = .ok (.ireturn, 1) by decide +kernel)
theorem mc_O2 (F : mFx p m c cc nL s args own meth ret0 G A) (hM : mWd G A s.heap M H locs) {k a pc0 ix0 ci cu nt : Nat} {z : Nat} {v0 : Int32} {v1 : Int32} {x0 : MethodName} {σ : Jvm.Lambda.Shape} (hq : mSites[k]? = some (x0, pc0, ix0, σ)) (he : M a = some (.inr (lamC (G.2.1 (20 + k)) [.int v0, .int v1]))) (hok : lamOk σ x0.cls [42, 180, 0, 16, 42, 180, 0, 18, 43, 184, 0, 26, 172] 2 [16, 18] 26 ci cu nt = true) (hitf : σ.implItf = false)
    (hxi : (⟨"DiskPacks$Order", "carryOut", "(LDiskPacks$State;)Z"⟩ : MethodName) = ⟨σ.iface, σ.name, σ.sam.toString⟩) {index count : Nat} (hlink : Cond.methodLink own index ⟨"DiskPacks$Order", "carryOut", "(LDiskPacks$State;)Z"⟩ ∈ lw_all) (hx0 : plainName (x0.cls ++ "$$Lambda") = true)
    {y : MethodName} (hy : y = ⟨σ.implClass, σ.implName, σ.implDesc.toString⟩) (hy9 : y.cls ≠ "java/lang/invoke/MethodHandle" ∧ y.cls ≠ "java/lang/invoke/VarHandle") {bytes : ByteArray} {maxL : Nat} {rm : Room} {Pre : mM → Prop} {w : Int32} (hw : w = nI 0 ∨ w = nI 1) (hC : mMet l y (ws_ y bytes maxL (some .boolean)) rm [.int v0, .int v1, .ref z] G Pre (pPost M1 (some (.int w)))) (hpre : Pre M)
    (hcode : Cond.code y bytes maxL (some .boolean) ∈ lw_all) (hstat : Cond.static y ∈ lw_all) (hini : Cond.initialized y.cls ∈ lw_all) (hlen : ∀ sig, parseMethodDescriptor y.desc = some sig → 3 = sig.parameters.length) (hml : maxL ≤ 40)
    (hsize : ls.size = nL) (hst : st = .ref z :: .ref a :: rest) (hW : (rest.map fun v => v.category).sum ≤ 8) (hdg : decode cc pc = .ok (.invokeinterface index count, 5)) (r1 : rm.frames + 2 ≤ R.frames) (r2 : rm.locals + 100 ≤ R.locals) (hf : cells + rm.cells ≤ R.cells ∧ slots + rm.slots ≤ R.slots)
    (kk : ∀ (H1 : Heap) (locs1 : List Loc), mWd G A s.heap M1 H1 locs1 → W p l e R s m args below meth c H1 locs1 (cells + rm.cells) (slots + rm.slots) Q (F0 m (pc + 5) ls (.int w :: rest))) : W p l e R s m args below meth c H locs cells slots Q (F0 m pc ls st) := by
  refine mc_run5 (rm := lamR rm) (Post := fun _ => pPost M1 (some (.int w)) M) (lam_run (below := below) (count := count) (ls := ls) (pc := pc) (cells := cells) (slots := slots) (R := R) (l := l) (p := p) (e := e) (As := [.ref z]) (st := st) (rest := rest) (index := index) (R' := lamR rm) (Post := fun _ => pPost M1 (some (.int w)) M) F hM hq he hok hxi (by decide +kernel) (by decide +kernel) hlink hx0 (fun sig h => by
      have h2 : parseMethodDescriptor (⟨"DiskPacks$Order", "carryOut", "(LDiskPacks$State;)Z"⟩ : MethodName).desc = some sig := h
      have h3 : (parseMethodDescriptor (⟨"DiskPacks$Order", "carryOut", "(LDiskPacks$State;)Z"⟩ : MethodName).desc).map (fun d => d.parameters.length) = some 1 := by decide +kernel
      rw [h2] at h3
      exact (Option.some.inj h3).symm) hsize hst hW hdg (by show rm.frames + 1 + 1 ≤ R.frames; omega) (by show 8 + (2 + 11) + (rm.locals + 60) ≤ R.locals; omega) hf.1 hf.2 (fun sI methk ck belowI hin => ?_)) F.2.2.2.2.1 hM (fun r M2 H1 locs1 hP h1 _ => ?_)
  case refine_2 =>
    obtain ⟨rfl, rfl⟩ := hP
    exact kk H1 locs1 h1
  case refine_1 =>
    have hl := lv_entry (Value.ref a :: [.ref z]) (n := 2) (Nat.le_of_ble_eq_true rfl)
    rw [lg_entry_eq]
    revert hl
    generalize ((lg_sl (Value.ref a :: [.ref z]) ++ List.replicate (2 - (lg_sl (Value.ref a :: [.ref z])).length) Slot.unset).toArray) = lsI
    intro hl
    have hWs := hin.2.1
    have hb := lam_bytes hin.2.2.1
    refine lv_aload_n F.1.1 hb (show decode ⟨⟨[42, 180, 0, 16, 42, 180, 0, 18, 43, 184, 0, 26, 172]⟩⟩ 0 = .ok (.aload_n 0, 1) by decide +kernel) rfl (lv_at hl 0 rfl) ?_
    refine wr_get F.1.1 hb (index := 16) (j := 0) (fun T hT => lam_fld F.1.2.2.2.2 F.2.2.1.2.2 (hWs.trans hT) hq hok 0 16 rfl) (hM.1 a _ he) (fun h => by cases h) rfl (show decode ⟨⟨[42, 180, 0, 16, 42, 180, 0, 18, 43, 184, 0, 26, 172]⟩⟩ 1 = .ok (.getfield 16, 3) by decide +kernel) ?_
    refine lv_aload_n F.1.1 hb (show decode ⟨⟨[42, 180, 0, 16, 42, 180, 0, 18, 43, 184, 0, 26, 172]⟩⟩ 4 = .ok (.aload_n 0, 1) by decide +kernel) rfl (lv_at hl 0 rfl) ?_
    refine wr_get F.1.1 hb (index := 18) (j := 1) (fun T hT => lam_fld F.1.2.2.2.2 F.2.2.1.2.2 (hWs.trans hT) hq hok 1 18 rfl) (hM.1 a _ he) (fun h => by cases h) rfl (show decode ⟨⟨[42, 180, 0, 16, 42, 180, 0, 18, 43, 184, 0, 26, 172]⟩⟩ 5 = .ok (.getfield 18, 3) by decide +kernel) ?_
    refine lv_aload_n F.1.1 hb (show decode ⟨⟨[42, 180, 0, 16, 42, 180, 0, 18, 43, 184, 0, 26, 172]⟩⟩ 8 = .ok (.aload_n 1, 1) by decide +kernel) rfl (lv_at hl 1 rfl) ?_
    exact lam_S F hM hq hok hitf hin hy hy9 hw hC hpre hcode hstat hini hlen hml (lsI := lsI) hl.1 (show decode ⟨⟨[42, 180, 0, 16, 42, 180, 0, 18, 43, 184, 0, 26, 172]⟩⟩ 9 = .ok (.invokestatic 26, 3) by decide +kernel) (show decode ⟨⟨[42, 180, 0, 16, 42, 180, 0, 18, 43, 184, 0, 26, 172]⟩⟩ (9 + 3) = .ok (.ireturn, 1) by decide +kernel)
theorem mc_O2z (F : mFx p m c cc nL s args own meth ret0 G A) (hM : mWd G A s.heap M H locs) {k a pc0 ix0 ci cu nt : Nat} {z : Nat} {v0 : Int32} {v1 : Int32} {x0 : MethodName} {σ : Jvm.Lambda.Shape} (hq : mSites[k]? = some (x0, pc0, ix0, σ)) (he : M a = some (.inr (lamC (G.2.1 (20 + k)) [.int v0, .int v1]))) (hok : lamOk σ x0.cls [42, 180, 0, 17, 42, 180, 0, 19, 43, 184, 0, 27, 172] 2 [17, 19] 27 ci cu nt = true) (hitf : σ.implItf = false)
    (hxi : (⟨"DiskPacks$Order", "carryOut", "(LDiskPacks$State;)Z"⟩ : MethodName) = ⟨σ.iface, σ.name, σ.sam.toString⟩) {index count : Nat} (hlink : Cond.methodLink own index ⟨"DiskPacks$Order", "carryOut", "(LDiskPacks$State;)Z"⟩ ∈ lw_all) (hx0 : plainName (x0.cls ++ "$$Lambda") = true)
    {y : MethodName} (hy : y = ⟨σ.implClass, σ.implName, σ.implDesc.toString⟩) (hy9 : y.cls ≠ "java/lang/invoke/MethodHandle" ∧ y.cls ≠ "java/lang/invoke/VarHandle") {bytes : ByteArray} {maxL : Nat} {rm : Room} {Pre : mM → Prop} {w : Int32} (hw : w = nI 0 ∨ w = nI 1) (hC : mMet l y (ws_ y bytes maxL (some .boolean)) rm [.int v0, .int v1, .ref z] G Pre (pPost M1 (some (.int w)))) (hpre : Pre M)
    (hcode : Cond.code y bytes maxL (some .boolean) ∈ lw_all) (hstat : Cond.static y ∈ lw_all) (hini : Cond.initialized y.cls ∈ lw_all) (hlen : ∀ sig, parseMethodDescriptor y.desc = some sig → 3 = sig.parameters.length) (hml : maxL ≤ 40)
    (hsize : ls.size = nL) (hst : st = .ref z :: .ref a :: rest) (hW : (rest.map fun v => v.category).sum ≤ 8) (hdg : decode cc pc = .ok (.invokeinterface index count, 5)) (r1 : rm.frames + 2 ≤ R.frames) (r2 : rm.locals + 100 ≤ R.locals) (hf : cells + rm.cells ≤ R.cells ∧ slots + rm.slots ≤ R.slots)
    (kk : ∀ (H1 : Heap) (locs1 : List Loc), mWd G A s.heap M1 H1 locs1 → W p l e R s m args below meth c H1 locs1 (cells + rm.cells) (slots + rm.slots) Q (F0 m (pc + 5) ls (.int w :: rest))) : W p l e R s m args below meth c H locs cells slots Q (F0 m pc ls st) := by
  refine mc_run5 (rm := lamR rm) (Post := fun _ => pPost M1 (some (.int w)) M) (lam_run (below := below) (count := count) (ls := ls) (pc := pc) (cells := cells) (slots := slots) (R := R) (l := l) (p := p) (e := e) (As := [.ref z]) (st := st) (rest := rest) (index := index) (R' := lamR rm) (Post := fun _ => pPost M1 (some (.int w)) M) F hM hq he hok hxi (by decide +kernel) (by decide +kernel) hlink hx0 (fun sig h => by
      have h2 : parseMethodDescriptor (⟨"DiskPacks$Order", "carryOut", "(LDiskPacks$State;)Z"⟩ : MethodName).desc = some sig := h
      have h3 : (parseMethodDescriptor (⟨"DiskPacks$Order", "carryOut", "(LDiskPacks$State;)Z"⟩ : MethodName).desc).map (fun d => d.parameters.length) = some 1 := by decide +kernel
      rw [h2] at h3
      exact (Option.some.inj h3).symm) hsize hst hW hdg (by show rm.frames + 1 + 1 ≤ R.frames; omega) (by show 8 + (2 + 11) + (rm.locals + 60) ≤ R.locals; omega) hf.1 hf.2 (fun sI methk ck belowI hin => ?_)) F.2.2.2.2.1 hM (fun r M2 H1 locs1 hP h1 _ => ?_)
  case refine_2 =>
    obtain ⟨rfl, rfl⟩ := hP
    exact kk H1 locs1 h1
  case refine_1 =>
    have hl := lv_entry (Value.ref a :: [.ref z]) (n := 2) (Nat.le_of_ble_eq_true rfl)
    rw [lg_entry_eq]
    revert hl
    generalize ((lg_sl (Value.ref a :: [.ref z]) ++ List.replicate (2 - (lg_sl (Value.ref a :: [.ref z])).length) Slot.unset).toArray) = lsI
    intro hl
    have hWs := hin.2.1
    have hb := lam_bytes hin.2.2.1
    refine lv_aload_n F.1.1 hb (show decode ⟨⟨[42, 180, 0, 17, 42, 180, 0, 19, 43, 184, 0, 27, 172]⟩⟩ 0 = .ok (.aload_n 0, 1) by decide +kernel) rfl (lv_at hl 0 rfl) ?_
    refine wr_get F.1.1 hb (index := 17) (j := 0) (fun T hT => lam_fld F.1.2.2.2.2 F.2.2.1.2.2 (hWs.trans hT) hq hok 0 17 rfl) (hM.1 a _ he) (fun h => by cases h) rfl (show decode ⟨⟨[42, 180, 0, 17, 42, 180, 0, 19, 43, 184, 0, 27, 172]⟩⟩ 1 = .ok (.getfield 17, 3) by decide +kernel) ?_
    refine lv_aload_n F.1.1 hb (show decode ⟨⟨[42, 180, 0, 17, 42, 180, 0, 19, 43, 184, 0, 27, 172]⟩⟩ 4 = .ok (.aload_n 0, 1) by decide +kernel) rfl (lv_at hl 0 rfl) ?_
    refine wr_get F.1.1 hb (index := 19) (j := 1) (fun T hT => lam_fld F.1.2.2.2.2 F.2.2.1.2.2 (hWs.trans hT) hq hok 1 19 rfl) (hM.1 a _ he) (fun h => by cases h) rfl (show decode ⟨⟨[42, 180, 0, 17, 42, 180, 0, 19, 43, 184, 0, 27, 172]⟩⟩ 5 = .ok (.getfield 19, 3) by decide +kernel) ?_
    refine lv_aload_n F.1.1 hb (show decode ⟨⟨[42, 180, 0, 17, 42, 180, 0, 19, 43, 184, 0, 27, 172]⟩⟩ 8 = .ok (.aload_n 1, 1) by decide +kernel) rfl (lv_at hl 1 rfl) ?_
    exact lam_S F hM hq hok hitf hin hy hy9 hw hC hpre hcode hstat hini hlen hml (lsI := lsI) hl.1 (show decode ⟨⟨[42, 180, 0, 17, 42, 180, 0, 19, 43, 184, 0, 27, 172]⟩⟩ 9 = .ok (.invokestatic 27, 3) by decide +kernel) (show decode ⟨⟨[42, 180, 0, 17, 42, 180, 0, 19, 43, 184, 0, 27, 172]⟩⟩ (9 + 3) = .ok (.ireturn, 1) by decide +kernel)
theorem mc_O3 (F : mFx p m c cc nL s args own meth ret0 G A) (hM : mWd G A s.heap M H locs) {k a pc0 ix0 ci cu nt : Nat} {z : Nat} {v0 : Int32} {v1 : Int32} {v2 : Int32} {x0 : MethodName} {σ : Jvm.Lambda.Shape} (hq : mSites[k]? = some (x0, pc0, ix0, σ)) (he : M a = some (.inr (lamC (G.2.1 (20 + k)) [.int v0, .int v1, .int v2]))) (hok : lamOk σ x0.cls [42, 180, 0, 17, 42, 180, 0, 19, 42, 180, 0, 21, 43, 184, 0, 29, 172] 2 [17, 19, 21] 29 ci cu nt = true) (hitf : σ.implItf = false)
    (hxi : (⟨"DiskPacks$Order", "carryOut", "(LDiskPacks$State;)Z"⟩ : MethodName) = ⟨σ.iface, σ.name, σ.sam.toString⟩) {index count : Nat} (hlink : Cond.methodLink own index ⟨"DiskPacks$Order", "carryOut", "(LDiskPacks$State;)Z"⟩ ∈ lw_all) (hx0 : plainName (x0.cls ++ "$$Lambda") = true)
    {y : MethodName} (hy : y = ⟨σ.implClass, σ.implName, σ.implDesc.toString⟩) (hy9 : y.cls ≠ "java/lang/invoke/MethodHandle" ∧ y.cls ≠ "java/lang/invoke/VarHandle") {bytes : ByteArray} {maxL : Nat} {rm : Room} {Pre : mM → Prop} {w : Int32} (hw : w = nI 0 ∨ w = nI 1) (hC : mMet l y (ws_ y bytes maxL (some .boolean)) rm [.int v0, .int v1, .int v2, .ref z] G Pre (pPost M1 (some (.int w)))) (hpre : Pre M)
    (hcode : Cond.code y bytes maxL (some .boolean) ∈ lw_all) (hstat : Cond.static y ∈ lw_all) (hini : Cond.initialized y.cls ∈ lw_all) (hlen : ∀ sig, parseMethodDescriptor y.desc = some sig → 4 = sig.parameters.length) (hml : maxL ≤ 40)
    (hsize : ls.size = nL) (hst : st = .ref z :: .ref a :: rest) (hW : (rest.map fun v => v.category).sum ≤ 8) (hdg : decode cc pc = .ok (.invokeinterface index count, 5)) (r1 : rm.frames + 2 ≤ R.frames) (r2 : rm.locals + 100 ≤ R.locals) (hf : cells + rm.cells ≤ R.cells ∧ slots + rm.slots ≤ R.slots)
    (kk : ∀ (H1 : Heap) (locs1 : List Loc), mWd G A s.heap M1 H1 locs1 → W p l e R s m args below meth c H1 locs1 (cells + rm.cells) (slots + rm.slots) Q (F0 m (pc + 5) ls (.int w :: rest))) : W p l e R s m args below meth c H locs cells slots Q (F0 m pc ls st) := by
  refine mc_run5 (rm := lamR rm) (Post := fun _ => pPost M1 (some (.int w)) M) (lam_run (below := below) (count := count) (ls := ls) (pc := pc) (cells := cells) (slots := slots) (R := R) (l := l) (p := p) (e := e) (As := [.ref z]) (st := st) (rest := rest) (index := index) (R' := lamR rm) (Post := fun _ => pPost M1 (some (.int w)) M) F hM hq he hok hxi (by decide +kernel) (by decide +kernel) hlink hx0 (fun sig h => by
      have h2 : parseMethodDescriptor (⟨"DiskPacks$Order", "carryOut", "(LDiskPacks$State;)Z"⟩ : MethodName).desc = some sig := h
      have h3 : (parseMethodDescriptor (⟨"DiskPacks$Order", "carryOut", "(LDiskPacks$State;)Z"⟩ : MethodName).desc).map (fun d => d.parameters.length) = some 1 := by decide +kernel
      rw [h2] at h3
      exact (Option.some.inj h3).symm) hsize hst hW hdg (by show rm.frames + 1 + 1 ≤ R.frames; omega) (by show 8 + (2 + 11) + (rm.locals + 60) ≤ R.locals; omega) hf.1 hf.2 (fun sI methk ck belowI hin => ?_)) F.2.2.2.2.1 hM (fun r M2 H1 locs1 hP h1 _ => ?_)
  case refine_2 =>
    obtain ⟨rfl, rfl⟩ := hP
    exact kk H1 locs1 h1
  case refine_1 =>
    have hl := lv_entry (Value.ref a :: [.ref z]) (n := 2) (Nat.le_of_ble_eq_true rfl)
    rw [lg_entry_eq]
    revert hl
    generalize ((lg_sl (Value.ref a :: [.ref z]) ++ List.replicate (2 - (lg_sl (Value.ref a :: [.ref z])).length) Slot.unset).toArray) = lsI
    intro hl
    have hWs := hin.2.1
    have hb := lam_bytes hin.2.2.1
    refine lv_aload_n F.1.1 hb (show decode ⟨⟨[42, 180, 0, 17, 42, 180, 0, 19, 42, 180, 0, 21, 43, 184, 0, 29, 172]⟩⟩ 0 = .ok (.aload_n 0, 1) by decide +kernel) rfl (lv_at hl 0 rfl) ?_
    refine wr_get F.1.1 hb (index := 17) (j := 0) (fun T hT => lam_fld F.1.2.2.2.2 F.2.2.1.2.2 (hWs.trans hT) hq hok 0 17 rfl) (hM.1 a _ he) (fun h => by cases h) rfl (show decode ⟨⟨[42, 180, 0, 17, 42, 180, 0, 19, 42, 180, 0, 21, 43, 184, 0, 29, 172]⟩⟩ 1 = .ok (.getfield 17, 3) by decide +kernel) ?_
    refine lv_aload_n F.1.1 hb (show decode ⟨⟨[42, 180, 0, 17, 42, 180, 0, 19, 42, 180, 0, 21, 43, 184, 0, 29, 172]⟩⟩ 4 = .ok (.aload_n 0, 1) by decide +kernel) rfl (lv_at hl 0 rfl) ?_
    refine wr_get F.1.1 hb (index := 19) (j := 1) (fun T hT => lam_fld F.1.2.2.2.2 F.2.2.1.2.2 (hWs.trans hT) hq hok 1 19 rfl) (hM.1 a _ he) (fun h => by cases h) rfl (show decode ⟨⟨[42, 180, 0, 17, 42, 180, 0, 19, 42, 180, 0, 21, 43, 184, 0, 29, 172]⟩⟩ 5 = .ok (.getfield 19, 3) by decide +kernel) ?_
    refine lv_aload_n F.1.1 hb (show decode ⟨⟨[42, 180, 0, 17, 42, 180, 0, 19, 42, 180, 0, 21, 43, 184, 0, 29, 172]⟩⟩ 8 = .ok (.aload_n 0, 1) by decide +kernel) rfl (lv_at hl 0 rfl) ?_
    refine wr_get F.1.1 hb (index := 21) (j := 2) (fun T hT => lam_fld F.1.2.2.2.2 F.2.2.1.2.2 (hWs.trans hT) hq hok 2 21 rfl) (hM.1 a _ he) (fun h => by cases h) rfl (show decode ⟨⟨[42, 180, 0, 17, 42, 180, 0, 19, 42, 180, 0, 21, 43, 184, 0, 29, 172]⟩⟩ 9 = .ok (.getfield 21, 3) by decide +kernel) ?_
    refine lv_aload_n F.1.1 hb (show decode ⟨⟨[42, 180, 0, 17, 42, 180, 0, 19, 42, 180, 0, 21, 43, 184, 0, 29, 172]⟩⟩ 12 = .ok (.aload_n 1, 1) by decide +kernel) rfl (lv_at hl 1 rfl) ?_
    exact lam_S F hM hq hok hitf hin hy hy9 hw hC hpre hcode hstat hini hlen hml (lsI := lsI) hl.1 (show decode ⟨⟨[42, 180, 0, 17, 42, 180, 0, 19, 42, 180, 0, 21, 43, 184, 0, 29, 172]⟩⟩ 13 = .ok (.invokestatic 29, 3) by decide +kernel) (show decode ⟨⟨[42, 180, 0, 17, 42, 180, 0, 19, 42, 180, 0, 21, 43, 184, 0, 29, 172]⟩⟩ (13 + 3) = .ok (.ireturn, 1) by decide +kernel)
end LMT
