/-! LAMBDAS: the rows of a made class's method: a captured value, the call of what it stands for -/
section LMG
variable {p : Program} {l : Launch} {e : Env} {R : Room} {s : State} {m : MethodId} {args : Array Value} {below : List Frame} {meth : Method} {c : Code} {H : Heap} {locs : List Loc} {cells slots : Nat} {Q : State → Prop}
variable {cc : ByteArray} {pc : Nat} {ls : Array Slot} {rest st : List Value}
theorem wr_get (hexec : p.tables.exec = Jvm.exec) (hb : c.code = cc) {index j a : Nat} (hf : ∀ T : State, s.WarmedH T.vm → ∃ f : Field, T.vm.fieldReady m.cls index m.cls f ∧ f.isStatic = false ∧ f.slot = j) {cell : Cell} (hcell : H[a]? = some cell) (hknown : cell.vm ≠ .unknown) {v : Value} (hv : cell.slots[j]? = some v) (hdg : decode cc pc = .ok (.getfield index, 3))
    (kk : W p l e R s m args below meth c H locs cells slots Q (F0 m (pc + 3) ls (v :: rest))) : W p l e R s m args below meth c H locs cells slots Q (F0 m pc ls (.ref a :: rest)) := by
  intro T hT X
  obtain ⟨t, a1, b1⟩ := kk T hT X
  obtain ⟨f, h1, h2, h3⟩ := hf T X.warmed
  refine ⟨t, ?_, b1⟩
  jvm_step X.here [X.here.top, hexec, hb, hdg, getfield.wp_ready (e := e) (s := T) (c := m.cls) (field := f) (a := a) (rest := rest) (cell := cell) (v := v) (f := F0 m pc ls (.ref a :: rest)) X.here.top h1 h2 rfl (by rw [hT]; exact hcell) hknown (by rw [h3]; exact hv)]
  exact a1
theorem wr_S (hexec : p.tables.exec = Jvm.exec) (hb : c.code = cc) (hml : c.maxLocals = ls.size) {index : Nat} {y : MethodName} {bytes : ByteArray} {maxL : Nat} {ret : Option FieldType} {mk : MethodId} (hnamed : s.methodNamed? y = some mk) (href : ∀ T : State, s.WarmedH T.vm → plainRef T e m.cls index) (hready : ∀ T : State, s.WarmedH T.vm → T.vm.methodReady m.cls index mk)
    (hstat : (Cond.static y).before args s = true) (hinit : (Cond.initialized y.cls).before args s = true) (hcode : (Cond.code y bytes maxL ret).before args s = true) (hy : y.cls ≠ "java/lang/invoke/MethodHandle" ∧ y.cls ≠ "java/lang/invoke/VarHandle")
    {mc ms : Nat} {Pc : Array Value → State → Prop} {Qc : Array Value → State → Outcome → State → Prop} {free : Addr → Prop} (hK : Back l R p e below s args y 3 8 (PreOf R mc ms Pc) (PostOf Qc mc ms free)) {As : List Value} (hlen : ∀ sig, parseMethodDescriptor y.desc = some sig → As.length = sig.parameters.length) (hst : st = As.reverse ++ rest) (hW : (rest.map fun v => v.category).sum ≤ 8) (hdg : decode cc pc = .ok (.invokestatic index, 3))
    (hpc : ∀ U : State, U.heap = H → s.WarmedH U.vm → Pc As.toArray U) (hf : cells + mc ≤ R.cells ∧ slots + ms ≤ R.slots) : va_Run p l e R s m args below meth c H locs cells slots mc ms (F0 m pc ls st) rest (Qc As.toArray) free := by
  obtain ⟨methM, cM, hmethM, -, -, -, -, -, -, hsigM⟩ := Cond.code_spec hnamed hcode
  have hstatic : methM.isStatic = true := Cond.static_spec hnamed hmethM hstat
  obtain ⟨kP, hkP, hname⟩ := className_of_methodNamed hnamed
  have hinitP : kP.init = .initialized := Cond.initialized_spec (findClass_of_methodNamed hnamed) hkP hinit
  intro T hT X
  obtain ⟨kP', hkP', heP⟩ := X.warmed.alike.2.2 _ _ hkP
  have hmT : T.vm.method? mk = some methM := by rw [X.warmed.alike.method?]; exact hmethM
  have hpoly : signaturePolymorphic kP' methM = false := by
    have hn : kP'.name = y.cls := by rw [heP]; exact hname
    simp [signaturePolymorphic, hn, hy.1, hy.2]
  obtain ⟨v, ⟨U', l2, c2, s2⟩, X', ⟨g', mk', t, L, e1, e2, hq, h1, hL, h2, h3⟩, hsteps⟩ := hK m meth c ⟨T, locs, cells, slots⟩ (F0 m pc ls rest) (.invokestatic index) mk As.toArray X rfl hml.symm (by rw [hb]; exact hdg) (lv_room hW) (X.named hnamed) ⟨hf.1, hf.2, hpc T hT X.warmed⟩
  dsimp only [Pt.U, Pt.locs, Pt.cells, Pt.slots] at X' e1 e2 h1 h2 h3 hsteps
  subst h1; subst h2; subst h3
  refine ⟨v, T.calling g' mk' As.toArray, t, U', L, hT, X', hL, e1, e2, hq, fun tg htg => ?_⟩
  jvm_step X.here [X.here.top, hexec, hb, hdg, invokestatic.wp_ready (e := e) (s := T) (m := mk) (k := kP') (meth := methM) (args := As) (rest := rest) (f := F0 m pc ls st) X.here.top (href T X.warmed) (hready T X.warmed) hkP' hmT hpoly hstatic (by rw [heP]; exact hinitP) (hlen _ hsigM) hst]
  intro acts
  rw [doInvoke_state]
  exact hsteps.trans htg
theorem wr_V (hexec : p.tables.exec = Jvm.exec) (hb : c.code = cc) (hml : c.maxLocals = ls.size) {index : Nat} {C : String} {y : MethodName} {bytes : ByteArray} {maxL : Nat} {ret : Option FieldType} {mk : MethodId} (hnamed : s.methodNamed? y = some mk) (href : ∀ T : State, s.WarmedH T.vm → namesAClass T m.cls index) (hready : ∀ T : State, s.WarmedH T.vm → T.vm.methodReady m.cls index mk)
    (hinst : (Cond.instanceMethod y).before args s = true) (hsel : (Cond.selects C y y).before args s = true) (hcode : (Cond.code y bytes maxL ret).before args s = true) (hy : y.cls ≠ "java/lang/invoke/MethodHandle" ∧ y.cls ≠ "java/lang/invoke/VarHandle")
    {mc ms : Nat} {Pc : Array Value → State → Prop} {Qc : Array Value → State → Outcome → State → Prop} {free : Addr → Prop} (hK : Back l R p e below s args y 3 8 (PreOf R mc ms Pc) (PostOf Qc mc ms free)) {b : Nat} {cellB : Cell} (hcell : H[b]? = some cellB) (hobj : cellB.vm.isStatics = false) (hcls : s.vm.findClass C = some cellB.cls) {As : List Value} (hlen : ∀ sig, parseMethodDescriptor y.desc = some sig → As.length = sig.parameters.length) (hst : st = As.reverse ++ .ref b :: rest) (hW : (rest.map fun v => v.category).sum ≤ 8) (hdg : decode cc pc = .ok (.invokevirtual index, 3))
    (hpc : ∀ U : State, U.heap = H → s.WarmedH U.vm → Pc (Value.ref b :: As).toArray U) (hf : cells + mc ≤ R.cells ∧ slots + ms ≤ R.slots) : va_Run p l e R s m args below meth c H locs cells slots mc ms (F0 m pc ls st) rest (Qc (Value.ref b :: As).toArray) free := by
  obtain ⟨mk0, methM, hnamed0, hmethM, hstM, habM⟩ := Cond.instanceMethod_spec hinst
  cases hnamed.symm.trans hnamed0
  obtain ⟨methM', cM, hmethM', -, -, -, -, -, -, hsigM⟩ := Cond.code_spec hnamed hcode
  cases hmethM.symm.trans hmethM'
  obtain ⟨c2, r2, m2, q1, q2, q3, q4, kP, hkP, hkPi⟩ := Cond.selects_spec hsel
  cases hcls.symm.trans q1
  cases (State.methodFound?_of_named hnamed hy).symm.trans q2
  cases hnamed.symm.trans q3
  obtain ⟨kN, hkN, hname⟩ := className_of_methodNamed hnamed
  cases hkP.symm.trans hkN
  intro T hT X
  have hA := X.warmed.alike
  obtain ⟨kP', hkP', heP⟩ := hA.2.2 _ _ hkP
  have hmT : T.vm.method? mk = some methM := by rw [hA.method?]; exact hmethM
  have hpoly : signaturePolymorphic kP' methM = false := by
    have hn : kP'.name = y.cls := by rw [heP]; exact hname
    simp [signaturePolymorphic, hn, hy.1, hy.2]
  have hselT : selectMethod e.platform T.vm cellB.cls mk = .method mk := by
    rw [Launch.admits_selectMethod X.admits, hA.selectMethod]
    exact q4
  obtain ⟨v, ⟨U', l2, c2, s2⟩, X', ⟨g', mk', t, L, e1, e2, hq, h1, hL, h2, h3⟩, hsteps⟩ := hK m meth c ⟨T, locs, cells, slots⟩ (F0 m pc ls rest) (.invokevirtual index) mk (Value.ref b :: As).toArray X rfl hml.symm (by rw [hb]; exact hdg) (lv_room hW) (X.named hnamed) ⟨hf.1, hf.2, hpc T hT X.warmed⟩
  dsimp only [Pt.U, Pt.locs, Pt.cells, Pt.slots] at X' e1 e2 h1 h2 h3 hsteps
  subst h1; subst h2; subst h3
  refine ⟨v, T.calling g' mk' (Value.ref b :: As).toArray, t, U', L, hT, X', hL, e1, e2, hq, fun tg htg => ?_⟩
  jvm_step X.here [X.here.top, hexec, hb, hdg, invokevirtual.wp_ready (e := e) (s := T) (r := mk) (m := mk) (k := kP') (mk := kP') (rmeth := methM) (meth := methM) (a := b) (args := As) (rest := rest) (cell := cellB) (f := F0 m pc ls st) X.here.top (href T X.warmed) (hready T X.warmed) hkP' hmT hpoly hstM (hlen _ hsigM) hst (by rw [hT]; exact hcell) (fun z h => by rw [h] at hobj; cases hobj) hselT hmT habM hkP' (by rw [heP]; exact hkPi)]
  intro acts
  rw [doInvoke_state]
  exact hsteps.trans htg
end LMG
