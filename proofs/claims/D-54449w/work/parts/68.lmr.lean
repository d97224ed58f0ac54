/-! LAMBDAS: a call through the interface reaches the made class's method, and comes back -/
def lamIn (s sI : State) (H : Heap) (ck : Code) (methk : Method) (fc : List UInt8) (fl : Nat) : Prop := sI.heap = H ∧ s.WarmedH sI.vm ∧ ck.code.data.toList = fc ∧ ck.maxLocals = fl ∧ methk.locks = false ∧ methk.sig.returnType = some .boolean
section LMR
variable {p : Program} {l : Launch} {e : Env} {R : Room} {s : State} {m : MethodId} {args : Array Value} {below : List Frame} {meth : Method} {c : Code} {H : Heap} {locs : List Loc} {cells slots : Nat} {Q : State → Prop}
variable {cc : ByteArray} {pc : Nat} {ls : Array Slot} {rest st : List Value} {G : mG} {A : Nat → Prop} {M : mM} {nL : Nat} {own : String} {ret0 : Option FieldType}
theorem lam_run (F : mFx p m c cc nL s args own meth ret0 G A) (hM : mWd G A s.heap M H locs) {k a pc0 ix0 : Nat} {x0 : MethodName} {σ : Jvm.Lambda.Shape} (hq : mSites[k]? = some (x0, pc0, ix0, σ)) {vals : List Value} (he : M a = some (.inr (lamC (G.2.1 (20 + k)) vals))) {fc : List UInt8} {fl mi ci cu nt : Nat} {fix : List Nat} (hok : lamOk σ x0.cls fc fl fix mi ci cu nt = true)
    {xi : MethodName} (hxi : xi = ⟨σ.iface, σ.name, σ.sam.toString⟩) (hxm : xi ∈ mIs) (hx9 : xi.cls ≠ "java/lang/invoke/MethodHandle" ∧ xi.cls ≠ "java/lang/invoke/VarHandle") {index count : Nat} (hlink : Cond.methodLink own index xi ∈ lw_all) (hx0 : plainName (x0.cls ++ "$$Lambda") = true) {As : List Value} (hlen : ∀ sig, parseMethodDescriptor xi.desc = some sig → As.length = sig.parameters.length) (hsize : ls.size = nL) (hst : st = As.reverse ++ .ref a :: rest) (hW : (rest.map fun v => v.category).sum ≤ 8) (hdg : decode cc pc = .ok (.invokeinterface index count, 5))
    {R' : Room} (r1 : R'.frames + 1 ≤ R.frames) (r2 : 8 + (fl + 11) + R'.locals ≤ R.locals) (r3 : cells + R'.cells ≤ R.cells) (r4 : slots + R'.slots ≤ R.slots) {Post : mM → Option Value → mM → Prop}
    (body : ∀ (sI : State) (methk : Method) (ck : Code) (belowI : List Frame), lamIn s sI H ck methk fc fl → W p l e R' sI ⟨G.2.1 (20 + k), 1⟩ (Value.ref a :: As).toArray belowI methk ck H [] 0 0 (MQ belowI (mQc G M H.size (Post M)) (Value.ref a :: As).toArray sI R'.cells R'.slots (mA M H.size)) (entryFrame ⟨G.2.1 (20 + k), 1⟩ (Value.ref a :: As).toArray fl)) :
    va_Run5 p l e R s m args below meth c H locs cells slots R'.cells R'.slots (F0 m pc ls st) rest (mQc G M H.size (Post M) (Value.ref a :: As).toArray) (mA M H.size) := by
  subst hxi
  intro T hT X
  obtain ⟨m0, kS, cfS, i0, p0, hm0, hkS, hcfS, hshape, hfind, hmade, hcan⟩ := F.2.2.1.2.2 k _ hq
  obtain ⟨kS', hkS', hnameS⟩ := className_of_methodNamed hm0
  cases hkS.symm.trans hkS'
  obtain ⟨kK, tk, methk, ck, t0, t, found, iface, hkK, hkn, hmk, hck, hfc, hfl, hlk, hacc, hret, -, -, -, -, -, -, -, -, hif, hfound, hsel⟩ := lam_facts (args := args) hmade hkS (F.1.2.2.2.2 _ q2201) (by rw [hnameS]; exact hok)
  obtain ⟨i2, hi2, hasg, hway⟩ := State.lambdaCallable_spec hcan
  obtain ⟨w1, w2⟩ := F.2.2.1.2.1 _ hxm
  obtain ⟨r0, r, hn, hrm, hstR, hsigR⟩ := Cond.declares_spec (va_Nw.use (A := args) rfl w1)
  obtain ⟨cL, kL, r1', hcL, hkL, hiL, hfoundL, hn1⟩ := Cond.interfaceMethod_spec (va_Nw.use (A := args) rfl w2)
  cases hn.symm.trans hn1
  have hcL : s.vm.findClass σ.iface = some cL := hcL
  have hr0cls : r0.cls = cL := Option.some.inj ((findClass_of_methodNamed hn).symm.trans hcL)
  obtain ⟨hnameR, hdescR⟩ := name_of_methodNamed hn hrm
  cases hcL.symm.trans hif
  cases hcL.symm.trans hi2
  have hfr : found = r0 := by
    have h1 : s.methodFound? σ.iface σ.name σ.sam.toString = some r0 := hfoundL
    simp only [State.methodFound?, hcL, hkL, hiL, Option.bind_eq_bind, Option.bind_some] at h1
    rw [hfound] at h1
    exact Option.some.inj h1
  subst hfr
  have hcellT : T.heap[a]? = some (lamC (G.2.1 (20 + k)) vals) := by rw [hT]; exact hM.1 a _ he
  obtain ⟨vm₁, X₁, hstep₁⟩ := X.invokeinterface F.1.1 F.1.2.2.2.1 (F.1.2.2.2.2 _ hlink) hn hrm hstR (by rw [hr0cls]; exact hkL) hiL hx9 (a := a) (cell := lamC (G.2.1 (20 + k)) vals) (kcell := kK) hcellT (fun z h => by cases h) hkK (by rw [hr0cls]; exact hasg)
    (m' := ⟨G.2.1 (20 + k), 1⟩) (meth' := methk) (by rw [Launch.admits_selectMethod X.admits]; exact hsel) hmk (by rw [hnameR, hdescR]; exact hway) (by rw [hacc]; decide) (by simp [Method.isAbstract, hacc, hasFlag, Acc.abstract])
    (g := F0 m pc ls st) rfl (argsL := As) (rest := rest) (hlen _ hsigR) hst (by rw [F.1.2.1]; exact hdg)
  have hmk1 : (T.setVm vm₁).vm.method? ⟨G.2.1 (20 + k), 1⟩ = some methk := by
    have h := X₁.warmed.alike.method?
    rw [h]; exact hmk
  have hpk : (T.setVm vm₁).plainMethod ⟨G.2.1 (20 + k), 1⟩ := State.plainMethod.of_name (fun k' hk' => by
    obtain ⟨k2, hk2, he2⟩ := X₁.warmed.alike.2.2 _ _ hkK
    cases hk2.symm.trans hk'
    rw [he2]
    show plainName kK.name = true
    rw [hkn, hnameS]; exact hx0)
  obtain ⟨Y₀, hin⟩ := X₁.into (g := F0 m pc ls rest) rfl (hsize.trans F.1.2.2.1.symm) (ig := .invokeinterface index count) (len := 5) (by rw [F.1.2.1]; exact hdg) (Value.ref a :: As).toArray (R' := R') hmk1 hck hlk hpk r1
    (by show 2 * 0 + (rest.map fun v => v.category).sum + (ck.maxLocals + 11) + R'.locals ≤ R.locals; rw [hfl]; omega) r3 r4
  have hheap : ((T.setVm vm₁).calling (F0 m pc ls rest) ⟨G.2.1 (20 + k), 1⟩ (Value.ref a :: As).toArray).heap = H := hT
  obtain ⟨tt, hsteps, o, hrun, hended, hQ, L, ⟨⟨v, hv⟩, hWe, hsame⟩, hfree⟩ := body _ methk ck (.java (F0 m pc ls rest) :: below) ⟨hheap, X₁.warmed, hfc, hfl, hlk, hret⟩ _ (by exact hT) Y₀
  subst hv
  obtain ⟨T', X', hW', -, ht⟩ := X₁.outOf (g := F0 m pc ls rest) rfl (ig := .invokeinterface index count) (len := 5) (by rw [F.1.2.1]; exact hdg) hended hWe hsame
  refine ⟨v, _, tt, T', L, hheap, X', hfree, ?_, ?_, hQ, fun tg htg => ?_⟩
  · rw [ht]; rfl
  · rw [ht]; rfl
  · refine hstep₁ _ fun acts => ?_
    show Steps p.tables e below (doInvoke e ((T.setVm vm₁).setTop (F0 m pc ls rest)) acts ⟨G.2.1 (20 + k), 1⟩ (Value.ref a :: As).toArray).1 tg
    rw [hin acts]
    refine Steps.trans ?_ htg
    have := Jvm.Steps.weaken (mid := [.java (F0 m pc ls rest)]) hsteps
    rw [ht] at this
    rw [← hfl] at this
    exact this
end LMR
