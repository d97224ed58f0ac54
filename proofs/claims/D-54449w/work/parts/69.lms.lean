/-! LAMBDAS: the made classes' bodies -/
theorem lam_at {e : Env} {G : mG} {s T : State} {args : Array Value} (hts : ∀ w ∈ lw_all, w.before args s = true) (hL : mLam G.2.1 s) (hWT : s.WarmedH T.vm) {k pc0 ix0 : Nat} {x0 : MethodName} {σ : Jvm.Lambda.Shape} (hq : mSites[k]? = some (x0, pc0, ix0, σ)) {fc : List UInt8} {fl mi ci cu nt : Nat} {fix : List Nat} (hok : lamOk σ x0.cls fc fl fix mi ci cu nt = true) (hitf : σ.implItf = false)
    {y : MethodName} (hy : y = ⟨σ.implClass, σ.implName, σ.implDesc.toString⟩) (hy9 : y.cls ≠ "java/lang/invoke/MethodHandle" ∧ y.cls ≠ "java/lang/invoke/VarHandle") {mk : MethodId} (hmk : s.methodNamed? y = some mk) :
    T.vm.methodReady (G.2.1 (20 + k)) mi mk ∧ namesAClass T (G.2.1 (20 + k)) mi ∧ plainRef T e (G.2.1 (20 + k)) mi ∧ (∀ j i : Nat, fix[j]? = some i → ∃ f : Field, T.vm.fieldReady (G.2.1 (20 + k)) i (G.2.1 (20 + k)) f ∧ f.isStatic = false ∧ f.slot = j) := by
  obtain ⟨m0, kS, cfS, i0, p0, hm0, hkS, -, -, -, hmade, -⟩ := (hL k _ hq).warm hWT
  obtain ⟨kS', hkS', hnameS⟩ := className_of_methodNamed hm0
  cases hkS.symm.trans hkS'
  have hO : (Cond.instantiable "java/lang/Object" 0).before args T = true := pay_in hts (fun w hw => lw_self w hw) _ q2201 args T hWT
  obtain ⟨kK, tk, methk, ck, t0, t, found, iface, hkK, -, -, -, -, -, -, -, -, ht0, htk, hti, hlook, hready, hcls, ⟨file, hfile, hp1, hp2⟩, hfld, -, -, -⟩ := lam_facts (args := args) hmade hkS hO (by rw [hnameS]; exact hok)
  have hmkT : T.methodNamed? y = some mk := by
    have := State.methodNamed?_setVm (s := s) hWT.alike y
    rw [hmk] at this
    exact this
  have hfT : T.vm.findClass σ.implClass = some mk.cls := by
    have := findClass_of_methodNamed hmkT
    rw [hy] at this
    exact this
  cases ht0.symm.trans hfT
  have ht : t = mk := by
    have h1 := State.methodFound?_of_named hmkT hy9
    rw [hy] at h1
    simp only [State.methodFound?, ht0, htk, Option.bind_eq_bind, Option.bind_some] at h1
    rw [hlook] at h1
    exact Option.some.inj h1
  subst ht
  obtain ⟨kN, hkN, hnameN⟩ := className_of_methodNamed hmkT
  cases htk.symm.trans hkN
  have hsp : ∀ z : Method, signaturePolymorphic tk z = false := fun z => by simp [signaturePolymorphic, hnameN, hy9.1, hy9.2]
  obtain ⟨b, hmem⟩ := memberRef_ask' (e := e) (vm := T.vm) (d := G.2.1 (20 + k)) (index := mi) hkK hfile (Or.inl hp1) hp2
  exact ⟨hready, ⟨kK, file, ci, nt, t.cls, tk, hkK, hfile, hp1, hcls, htk, by rw [hti]; exact hitf⟩, ⟨ci, _, _, b, t.cls, tk, hmem, hcls, htk, by simp [hsp]⟩, hfld⟩
section LMS
variable {p : Program} {l : Launch} {e : Env} {R : Room} {s sI : State} {m : MethodId} {args : Array Value} {below belowI : List Frame} {meth methk : Method} {c ck : Code} {H : Heap} {locs : List Loc} {cells slots : Nat} {Q : State → Prop}
variable {cc : ByteArray} {pc : Nat} {ls : Array Slot} {rest st : List Value} {G : mG} {A : Nat → Prop} {M M1 : mM} {nL : Nat} {own : String} {ret0 : Option FieldType}
/-- a forwarder's room over what it calls -/
def lamR (rm : Room) : Room := { frames := rm.frames + 1, locals := rm.locals + 60, cells := rm.cells, slots := rm.slots }
theorem lam_bytes {b : ByteArray} {fc : List UInt8} (h : b.data.toList = fc) : b = ⟨⟨fc⟩⟩ := by
  subst h
  rfl
/-- the midst of a made class's method: called with av, behind the loads; a static target -/
theorem lam_S (F : mFx p m c cc nL s args own meth ret0 G A) (hM : mWd G A s.heap M H locs) {k pc0 ix0 : Nat} {x0 : MethodName} {σ : Jvm.Lambda.Shape} (hq : mSites[k]? = some (x0, pc0, ix0, σ)) {fc : List UInt8} {fl mi ci cu nt : Nat} {fix : List Nat} (hok : lamOk σ x0.cls fc fl fix mi ci cu nt = true) (hitf : σ.implItf = false) (hin : lamIn s sI H ck methk fc fl)
    {y : MethodName} (hy : y = ⟨σ.implClass, σ.implName, σ.implDesc.toString⟩) (hy9 : y.cls ≠ "java/lang/invoke/MethodHandle" ∧ y.cls ≠ "java/lang/invoke/VarHandle") {bytes : ByteArray} {maxL : Nat} {rm : Room} {av : List Value} {Pre : mM → Prop} {w : Int32} (hw : w = nI 0 ∨ w = nI 1) (hC : mMet l y (ws_ y bytes maxL (some .boolean)) rm av G Pre (pPost M1 (some (.int w)))) (hpre : Pre M)
    (hcode : Cond.code y bytes maxL (some .boolean) ∈ lw_all) (hstat : Cond.static y ∈ lw_all) (hini : Cond.initialized y.cls ∈ lw_all) (hlen : ∀ sig, parseMethodDescriptor y.desc = some sig → av.length = sig.parameters.length) (hml : maxL ≤ 40) {a : Value} {As : List Value} {lsI : Array Slot} (hls : lsI.size = fl) {pcI : Nat} (hd1 : decode ⟨⟨fc⟩⟩ pcI = .ok (.invokestatic mi, 3)) (hd2 : decode ⟨⟨fc⟩⟩ (pcI + 3) = .ok (.ireturn, 1)) :
    W p l e (lamR rm) sI ⟨G.2.1 (20 + k), 1⟩ (a :: As).toArray belowI methk ck H [] 0 0 (MQ belowI (mQc G M H.size (pPost M1 (some (.int w)) M)) (a :: As).toArray sI (lamR rm).cells (lamR rm).slots (mA M H.size)) (F0 ⟨G.2.1 (20 + k), 1⟩ pcI lsI av.reverse) := by
  obtain ⟨hh, hWs, hfc, hfl, hlk, hret⟩ := hin
  have hb := lam_bytes hfc
  have hA' : ∀ q, sI.heap.size ≤ q → mA M H.size q := fun q hq => Or.inr (by rw [← hh]; exact hq)
  have hM' : mWd G (mA M H.size) sI.heap M H [] := ⟨hM.1, fun q h => Or.inl h, by rw [hh]; exact va_S.rf⟩
  cases hmk : s.methodNamed? y with
  | none =>
    have h0 := F.1.2.2.2.2 _ hcode
    simp [Cond.before, Cond.holds, Cond.value, hmk] at h0
  | some mk =>
    have hmkI : sI.methodNamed? y = some mk := by
      have := State.methodNamed?_setVm (s := s) hWs.alike y
      rw [hmk] at this
      exact this
    have hws : ∀ w' ∈ ws_ y bytes maxL (some .boolean), ∀ (a' : Array Value) (U : State), sI.WarmedH U.vm → w'.before a' U = true := fun w' hw' a' U hU => pay_in F.1.2.2.2.2 (lw_meth hcode) w' hw' a' U (hWs.trans hU)
    have hwI : ∀ w' ∈ lw_all, w'.before (a :: As).toArray sI = true := fun w' hw' => hws w' (List.mem_cons_of_mem _ hw') _ _ (State.WarmedH.refl sI)
    have hK : Back l (lamR rm) p e belowI sI (a :: As).toArray y 3 8 (PreOf (lamR rm) rm.cells rm.slots (mPre G M H.size av)) (PostOf (mQc G M H.size (pPost M1 (some (.int w)) M)) rm.cells rm.slots (mA M H.size)) :=
      back_of (bytes := bytes) (maxL := maxL) (ret := some .boolean) (hC M H.size hpre) mPre.blind rfl rfl (Nat.le_refl _) (by show 8 + (maxL + 11) + rm.locals ≤ rm.locals + 60; omega) hws List.mem_cons_self (fun a' U hU => hws _ (List.mem_cons_of_mem _ hini) a' U hU)
    have at_ := fun (T : State) (hT : sI.WarmedH T.vm) => lam_at (e := e) F.1.2.2.2.2 F.2.2.1.2.2 (hWs.trans hT) hq hok hitf hy hy9 hmk
    have hr := wr_S (meth := methk) (m := ⟨G.2.1 (20 + k), 1⟩) (cells := 0) (slots := 0) (locs := []) (H := H) (rest := []) F.1.1 hb (hfl.trans hls.symm) hmkI (fun T hT => (at_ T hT).2.2.1) (fun T hT => (at_ T hT).1) (hwI _ hstat) (hwI _ hini) (hwI _ hcode) hy9 hK hlen (List.append_nil _).symm (by decide) hd1
      (fun U hU hWU => mPre.at F hM hU (hWs.trans hWU) av) ⟨by show 0 + rm.cells ≤ rm.cells; omega, by show 0 + rm.slots ≤ rm.slots; omega⟩
    refine mc_run (rm := rm) (Post := fun _ => pPost M1 (some (.int w)) M) hr hA' hM' fun r M2 H1 locs1 hP h1 _ => ?_
    obtain ⟨rfl, rfl⟩ := hP
    exact W.widen (by show 0 + rm.cells ≤ rm.cells; omega) (by show 0 + rm.slots ≤ rm.slots; omega) (W.zret F.1.1 hb hret (nZ01 hw) (fun t ht _ => ⟨_, M2, rfl, ⟨rfl, rfl⟩, by rw [ht]; exact h1.1, h1.2.1, by
      have := h1.2.2.F ht
      exact this⟩) h1.2.2.2.2 hd2 hlk)
/-- the midst of a made class's method: called with av, behind the loads; a private method of a captured object -/
theorem lam_V (F : mFx p m c cc nL s args own meth ret0 G A) (hM : mWd G A s.heap M H locs) {k pc0 ix0 : Nat} {x0 : MethodName} {σ : Jvm.Lambda.Shape} (hq : mSites[k]? = some (x0, pc0, ix0, σ)) {fc : List UInt8} {fl mi ci cu nt : Nat} {fix : List Nat} (hok : lamOk σ x0.cls fc fl fix mi ci cu nt = true) (hitf : σ.implItf = false) (hin : lamIn s sI H ck methk fc fl)
    {y : MethodName} (hy : y = ⟨σ.implClass, σ.implName, σ.implDesc.toString⟩) (hy9 : y.cls ≠ "java/lang/invoke/MethodHandle" ∧ y.cls ≠ "java/lang/invoke/VarHandle") {bytes : ByteArray} {maxL : Nat} {rm : Room} {bo ci2 : Nat} {C : String} {fs : List Value} {qc : vw_C} (hbo : M bo = some (eO ci2 fs)) (hqc : vwCl[ci2]? = some qc) (hqC : qc.1 = C) {av : List Value} {Pre : mM → Prop} {w : Int32} (hw : w = nI 0 ∨ w = nI 1) (hC : mMet l y (ws_ y bytes maxL (some .boolean)) rm (.ref bo :: av) G Pre (pPost M1 (some (.int w)))) (hpre : Pre M)
    (hcode : Cond.code y bytes maxL (some .boolean) ∈ lw_all) (hinst : Cond.instanceMethod y ∈ lw_all) (hsel : Cond.selects C y y ∈ lw_all) (hini : Cond.initialized y.cls ∈ lw_all) (hlen : ∀ sig, parseMethodDescriptor y.desc = some sig → av.length = sig.parameters.length) (hml : maxL ≤ 40) {a : Value} {As : List Value} {lsI : Array Slot} (hls : lsI.size = fl) {pcI : Nat} (hd1 : decode ⟨⟨fc⟩⟩ pcI = .ok (.invokevirtual mi, 3)) (hd2 : decode ⟨⟨fc⟩⟩ (pcI + 3) = .ok (.ireturn, 1)) :
    W p l e (lamR rm) sI ⟨G.2.1 (20 + k), 1⟩ (a :: As).toArray belowI methk ck H [] 0 0 (MQ belowI (mQc G M H.size (pPost M1 (some (.int w)) M)) (a :: As).toArray sI (lamR rm).cells (lamR rm).slots (mA M H.size)) (F0 ⟨G.2.1 (20 + k), 1⟩ pcI lsI (av.reverse ++ [.ref bo])) := by
  obtain ⟨hh, hWs, hfc, hfl, hlk, hret⟩ := hin
  have hb := lam_bytes hfc
  have hA' : ∀ q, sI.heap.size ≤ q → mA M H.size q := fun q hq => Or.inr (by rw [← hh]; exact hq)
  have hM' : mWd G (mA M H.size) sI.heap M H [] := ⟨hM.1, fun q h => Or.inl h, by rw [hh]; exact va_S.rf⟩
  cases hmk : s.methodNamed? y with
  | none =>
    have h0 := F.1.2.2.2.2 _ hcode
    simp [Cond.before, Cond.holds, Cond.value, hmk] at h0
  | some mk =>
    have hmkI : sI.methodNamed? y = some mk := by
      have := State.methodNamed?_setVm (s := s) hWs.alike y
      rw [hmk] at this
      exact this
    have hws : ∀ w' ∈ ws_ y bytes maxL (some .boolean), ∀ (a' : Array Value) (U : State), sI.WarmedH U.vm → w'.before a' U = true := fun w' hw' a' U hU => pay_in F.1.2.2.2.2 (lw_meth hcode) w' hw' a' U (hWs.trans hU)
    have hwI : ∀ w' ∈ lw_all, w'.before (a :: As).toArray sI = true := fun w' hw' => hws w' (List.mem_cons_of_mem _ hw') _ _ (State.WarmedH.refl sI)
    have hK : Back l (lamR rm) p e belowI sI (a :: As).toArray y 3 8 (PreOf (lamR rm) rm.cells rm.slots (mPre G M H.size (.ref bo :: av))) (PostOf (mQc G M H.size (pPost M1 (some (.int w)) M)) rm.cells rm.slots (mA M H.size)) :=
      back_of (bytes := bytes) (maxL := maxL) (ret := some .boolean) (hC M H.size hpre) mPre.blind rfl rfl (Nat.le_refl _) (by show 8 + (maxL + 11) + rm.locals ≤ rm.locals + 60; omega) hws List.mem_cons_self (fun a' U hU => hws _ (List.mem_cons_of_mem _ hini) a' U hU)
    have at_ := fun (T : State) (hT : sI.WarmedH T.vm) => lam_at (e := e) F.1.2.2.2.2 F.2.2.1.2.2 (hWs.trans hT) hq hok hitf hy hy9 hmk
    obtain ⟨cellB, hcB, hoB, hclB⟩ := hM.recv F.2.1 hbo hqc
    rw [hqC] at hclB
    have hr := wr_V (meth := methk) (m := ⟨G.2.1 (20 + k), 1⟩) (cells := 0) (slots := 0) (locs := []) (H := H) (rest := []) F.1.1 hb (hfl.trans hls.symm) hmkI (fun T hT => (at_ T hT).2.1) (fun T hT => (at_ T hT).1) (hwI _ hinst) (hwI _ hsel) (hwI _ hcode) hy9 hK hcB hoB (by rw [hWs.alike.findClass]; exact hclB) hlen rfl (by decide) hd1
      (fun U hU hWU => mPre.at F hM hU (hWs.trans hWU) (.ref bo :: av)) ⟨by show 0 + rm.cells ≤ rm.cells; omega, by show 0 + rm.slots ≤ rm.slots; omega⟩
    refine mc_run (rm := rm) (Post := fun _ => pPost M1 (some (.int w)) M) hr hA' hM' fun r M2 H1 locs1 hP h1 _ => ?_
    obtain ⟨rfl, rfl⟩ := hP
    exact W.widen (by show 0 + rm.cells ≤ rm.cells; omega) (by show 0 + rm.slots ≤ rm.slots; omega) (W.zret F.1.1 hb hret (nZ01 hw) (fun t ht _ => ⟨_, M2, rfl, ⟨rfl, rfl⟩, by rw [ht]; exact h1.1, h1.2.1, by
      have := h1.2.2.F ht
      exact this⟩) h1.2.2.2.2 hd2 hlk)
end LMS
