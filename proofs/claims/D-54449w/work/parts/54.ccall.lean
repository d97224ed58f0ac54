/-! MORE CALLS: nest mates' statics and constructors, overriding methods, an interface's methods; casts, clones, copies of arrays -/
theorem lw_F {own : String} {idx : Nat} {C : String} {x y : MethodName} {b : ByteArray} {L : Nat} {r : Option FieldType} (h1 : Cond.methodLink own idx x ∈ lw_all) (h2 : Cond.selects C x y ∈ lw_all) (h3 : Cond.instanceMethod y ∈ lw_all) (h4 : Cond.initialized y.cls ∈ lw_all) (h5 : Cond.code y b L r ∈ lw_all) : GoodIn lw_all (va_wsF own idx C x y (ws_ y b L r)) := by
  unfold va_wsF
  refine lw_app ?_ (lw_meth h5)
  intro w hw
  simp only [List.mem_cons, List.not_mem_nil, or_false] at hw
  rcases hw with e | e | e | e
  · rw [e]; exact h1
  · rw [e]; exact h2
  · rw [e]; exact h3
  · rw [e]; exact h4
theorem lw_U {own : String} {idx : Nat} {C owner : String} {x y : MethodName} {b : ByteArray} {L : Nat} {r : Option FieldType} (h1 : Cond.methodLink own idx x ∈ lw_all) (h0 : Cond.sameMethod x.cls owner x.name x.desc ∈ lw_all) (h2 : Cond.selects C x y ∈ lw_all) (h3 : Cond.instanceMethod y ∈ lw_all) (h4 : Cond.initialized y.cls ∈ lw_all) (h5 : Cond.code y b L r ∈ lw_all) : GoodIn lw_all (va_wsU own idx C owner x y (ws_ y b L r)) := by
  unfold va_wsU
  refine lw_app ?_ (lw_meth h5)
  intro w hw
  simp only [List.mem_cons, List.not_mem_nil, or_false] at hw
  rcases hw with e | e | e | e | e
  · rw [e]; exact h1
  · rw [e]; exact h0
  · rw [e]; exact h2
  · rw [e]; exact h3
  · rw [e]; exact h4
section CC0
variable {p : Program} {l : Launch} {e : Env} {R : Room} {s : State} {m : MethodId} {args : Array Value} {below : List Frame} {meth : Method} {c : Code} {H : Heap} {locs : List Loc} {cells slots : Nat} {Q : State → Prop}
variable {cc : ByteArray} {pc : Nat} {ls : Array Slot} {rest st : List Value} {G : mG} {A : Nat → Prop} {a : Nat} {M : mM} {nL : Nat} {own : String} {ret0 : Option FieldType}
variable {x y : MethodName} {bytes : ByteArray} {maxL n index count : Nat} {ret : Option FieldType} {rm : Room} {Pre : mM → Prop} {Post : mM → Option Value → mM → Prop} {As : List Value} {b ci : Nat} {C owner host : String} {ws : List Cond} {M1 : mM} {v : Value}
theorem mc_run5 {a0 : Array Value} (hr : va_Run5 p l e R s m args below meth c H locs cells slots rm.cells rm.slots (F0 m pc ls st) rest (mQc G M H.size (Post M) a0) (mA M H.size)) (hA : ∀ q, s.heap.size ≤ q → A q) (hM : mWd G A s.heap M H locs)
    (kk : ∀ (r : Option Value) (M' : mM) (H1 : Heap) (locs1 : List Loc), Post M r M' → mWd G A s.heap M' H1 locs1 → H.size ≤ H1.size → W p l e R s m args below meth c H1 locs1 (cells + rm.cells) (slots + rm.slots) Q (F0 m (pc + 5) ls (r.toList ++ rest))) : W p l e R s m args below meth c H locs cells slots Q (F0 m pc ls st) := by
  intro T hT X
  obtain ⟨v, st₀, t, T', L, h0, X', hL, e1, e2, ⟨r, M', hv, hp, hOn, hdom, hF⟩, st⟩ := hr T hT X
  cases hv
  obtain ⟨k1, k2⟩ := hM.back hA h0 e1 hL hOn hdom hF
  obtain ⟨t2, a1, b1⟩ := kk v M' T'.heap (locs ++ L) hp k1 k2 T' rfl X'
  exact ⟨t2, st t2 a1, b1⟩
theorem mc_SN (F : mFx p m c cc nL s args own meth ret0 G A) (hM : mWd G A s.heap M H locs) (hC : mMet l y ws rm As G Pre Post) (cw : va_CN R s args own index y host bytes maxL ret ws rm rm.cells rm.slots n ∧ (Cond.static y).before args s = true ∧ True) (hpre : Pre M) (hn : As.length = n) (hsize : ls.size = nL) (hst : st = As.reverse ++ rest) (hW : (rest.map fun v => v.category).sum ≤ 8) (hdg : decode cc pc = .ok (.invokestatic index, 3)) (hf : cells + rm.cells ≤ R.cells ∧ slots + rm.slots ≤ R.slots)
    (kk : ∀ (r : Option Value) (M' : mM) (H1 : Heap) (locs1 : List Loc), Post M r M' → mWd G A s.heap M' H1 locs1 → H.size ≤ H1.size → W p l e R s m args below meth c H1 locs1 (cells + rm.cells) (slots + rm.slots) Q (F0 m (pc + 3) ls (r.toList ++ rest))) : W p l e R s m args below meth c H locs cells slots Q (F0 m pc ls st) := by
  exact mc_run (va_runSN F.1 (hC M H.size hpre) cw ⟨mPre.blind, fun U hU hW => mPre.at F hM hU hW _⟩ rfl hn hsize hst (lv_room hW) hdg hf) F.2.2.2.2.1 hM kk
theorem mc_SNa (F : mFx p m c cc nL s args own meth ret0 G A) (hM : mWd G A s.heap M H locs) (hC : mMet l y ws rm As G Pre (pPost M1 (some v))) (cw : va_CN R s args own index y host bytes maxL ret ws rm rm.cells rm.slots n ∧ (Cond.static y).before args s = true ∧ True) (hpre : Pre M) (hn : As.length = n) (hsize : ls.size = nL) (hst : st = As.reverse ++ rest) (hW : (rest.map fun v => v.category).sum ≤ 8) (hdg : decode cc pc = .ok (.invokestatic index, 3)) (hf : cells + rm.cells ≤ R.cells ∧ slots + rm.slots ≤ R.slots)
    (kk : ∀ (H1 : Heap) (locs1 : List Loc), mWd G A s.heap M1 H1 locs1 → W p l e R s m args below meth c H1 locs1 (cells + rm.cells) (slots + rm.slots) Q (F0 m (pc + 3) ls (v :: rest))) : W p l e R s m args below meth c H locs cells slots Q (F0 m pc ls st) := by
  refine mc_SN F hM hC cw hpre hn hsize hst hW hdg hf fun r M2 H1 locs1 hP h1 _ => ?_
  obtain ⟨rfl, rfl⟩ := hP
  exact kk H1 locs1 h1
theorem mc_SNv (F : mFx p m c cc nL s args own meth ret0 G A) (hM : mWd G A s.heap M H locs) (hC : mMet l y ws rm As G Pre (pPost M1 (none))) (cw : va_CN R s args own index y host bytes maxL ret ws rm rm.cells rm.slots n ∧ (Cond.static y).before args s = true ∧ True) (hpre : Pre M) (hn : As.length = n) (hsize : ls.size = nL) (hst : st = As.reverse ++ rest) (hW : (rest.map fun v => v.category).sum ≤ 8) (hdg : decode cc pc = .ok (.invokestatic index, 3)) (hf : cells + rm.cells ≤ R.cells ∧ slots + rm.slots ≤ R.slots)
    (kk : ∀ (H1 : Heap) (locs1 : List Loc), mWd G A s.heap M1 H1 locs1 → W p l e R s m args below meth c H1 locs1 (cells + rm.cells) (slots + rm.slots) Q (F0 m (pc + 3) ls (rest))) : W p l e R s m args below meth c H locs cells slots Q (F0 m pc ls st) := by
  refine mc_SN F hM hC cw hpre hn hsize hst hW hdg hf fun r M2 H1 locs1 hP h1 _ => ?_
  obtain ⟨rfl, rfl⟩ := hP
  exact kk H1 locs1 h1
theorem mc_IN (F : mFx p m c cc nL s args own meth ret0 G A) (hM : mWd G A s.heap M H locs) (hC : mMet l y ws rm (.ref b :: As) G Pre Post) (cw : va_CN R s args own index y host bytes maxL none ws rm rm.cells rm.slots n ∧ y.name = "<init>" ∧ (Cond.instanceMethod y).before args s = true) (hpre : Pre M) (hn : As.length = n) (hsize : ls.size = nL) (hst : st = As.reverse ++ .ref b :: rest) (hW : (rest.map fun v => v.category).sum ≤ 8) (hdg : decode cc pc = .ok (.invokespecial index, 3)) (hf : cells + rm.cells ≤ R.cells ∧ slots + rm.slots ≤ R.slots)
    (kk : ∀ (r : Option Value) (M' : mM) (H1 : Heap) (locs1 : List Loc), Post M r M' → mWd G A s.heap M' H1 locs1 → H.size ≤ H1.size → W p l e R s m args below meth c H1 locs1 (cells + rm.cells) (slots + rm.slots) Q (F0 m (pc + 3) ls (r.toList ++ rest))) : W p l e R s m args below meth c H locs cells slots Q (F0 m pc ls st) := by
  exact mc_run (va_runIN F.1 (hC M H.size hpre) cw ⟨mPre.blind, fun U hU hW => mPre.at F hM hU hW _⟩ rfl hn hsize hst (lv_room hW) hdg hf) F.2.2.2.2.1 hM kk
theorem mc_INa (F : mFx p m c cc nL s args own meth ret0 G A) (hM : mWd G A s.heap M H locs) (hC : mMet l y ws rm (.ref b :: As) G Pre (pPost M1 (some v))) (cw : va_CN R s args own index y host bytes maxL none ws rm rm.cells rm.slots n ∧ y.name = "<init>" ∧ (Cond.instanceMethod y).before args s = true) (hpre : Pre M) (hn : As.length = n) (hsize : ls.size = nL) (hst : st = As.reverse ++ .ref b :: rest) (hW : (rest.map fun v => v.category).sum ≤ 8) (hdg : decode cc pc = .ok (.invokespecial index, 3)) (hf : cells + rm.cells ≤ R.cells ∧ slots + rm.slots ≤ R.slots)
    (kk : ∀ (H1 : Heap) (locs1 : List Loc), mWd G A s.heap M1 H1 locs1 → W p l e R s m args below meth c H1 locs1 (cells + rm.cells) (slots + rm.slots) Q (F0 m (pc + 3) ls (v :: rest))) : W p l e R s m args below meth c H locs cells slots Q (F0 m pc ls st) := by
  refine mc_IN F hM hC cw hpre hn hsize hst hW hdg hf fun r M2 H1 locs1 hP h1 _ => ?_
  obtain ⟨rfl, rfl⟩ := hP
  exact kk H1 locs1 h1
theorem mc_INv (F : mFx p m c cc nL s args own meth ret0 G A) (hM : mWd G A s.heap M H locs) (hC : mMet l y ws rm (.ref b :: As) G Pre (pPost M1 (none))) (cw : va_CN R s args own index y host bytes maxL none ws rm rm.cells rm.slots n ∧ y.name = "<init>" ∧ (Cond.instanceMethod y).before args s = true) (hpre : Pre M) (hn : As.length = n) (hsize : ls.size = nL) (hst : st = As.reverse ++ .ref b :: rest) (hW : (rest.map fun v => v.category).sum ≤ 8) (hdg : decode cc pc = .ok (.invokespecial index, 3)) (hf : cells + rm.cells ≤ R.cells ∧ slots + rm.slots ≤ R.slots)
    (kk : ∀ (H1 : Heap) (locs1 : List Loc), mWd G A s.heap M1 H1 locs1 → W p l e R s m args below meth c H1 locs1 (cells + rm.cells) (slots + rm.slots) Q (F0 m (pc + 3) ls (rest))) : W p l e R s m args below meth c H locs cells slots Q (F0 m pc ls st) := by
  refine mc_IN F hM hC cw hpre hn hsize hst hW hdg hf fun r M2 H1 locs1 hP h1 _ => ?_
  obtain ⟨rfl, rfl⟩ := hP
  exact kk H1 locs1 h1
theorem mc_U (F : mFx p m c cc nL s args own meth ret0 G A) (hM : mWd G A s.heap M H locs) (hC : mMet l y ws rm (.ref b :: As) G Pre Post) (cw : va_CU R s args own C owner index x y bytes maxL ret ws rm rm.cells rm.slots n) (hpre : Pre M) {fs : List Value} (hb : M b = some (eO ci fs)) {q : vw_C} (hc : vwCl[ci]? = some q) (hq : q.1 = C) (hn : As.length = n) (hsize : ls.size = nL) (hst : st = As.reverse ++ .ref b :: rest) (hW : (rest.map fun v => v.category).sum ≤ 8) (hdg : decode cc pc = .ok (.invokevirtual index, 3)) (hf : cells + rm.cells ≤ R.cells ∧ slots + rm.slots ≤ R.slots)
    (kk : ∀ (r : Option Value) (M' : mM) (H1 : Heap) (locs1 : List Loc), Post M r M' → mWd G A s.heap M' H1 locs1 → H.size ≤ H1.size → W p l e R s m args below meth c H1 locs1 (cells + rm.cells) (slots + rm.slots) Q (F0 m (pc + 3) ls (r.toList ++ rest))) : W p l e R s m args below meth c H locs cells slots Q (F0 m pc ls st) := by
  subst hq
  exact mc_run (va_runU F.1 (hC M H.size hpre) cw ⟨mPre.blind, hM.recv F.2.1 hb hc, fun U hU hW => mPre.at F hM hU hW _⟩ rfl hn hsize hst (lv_room hW) hdg hf) F.2.2.2.2.1 hM kk
theorem mc_Ua (F : mFx p m c cc nL s args own meth ret0 G A) (hM : mWd G A s.heap M H locs) (hC : mMet l y ws rm (.ref b :: As) G Pre (pPost M1 (some v))) (cw : va_CU R s args own C owner index x y bytes maxL ret ws rm rm.cells rm.slots n) {fs : List Value} (hb : M b = some (eO ci fs)) {q : vw_C} (hc : vwCl[ci]? = some q) (hq : q.1 = C) (hpre : Pre M) (hn : As.length = n) (hsize : ls.size = nL) (hst : st = As.reverse ++ .ref b :: rest) (hW : (rest.map fun v => v.category).sum ≤ 8) (hdg : decode cc pc = .ok (.invokevirtual index, 3)) (hf : cells + rm.cells ≤ R.cells ∧ slots + rm.slots ≤ R.slots)
    (kk : ∀ (H1 : Heap) (locs1 : List Loc), mWd G A s.heap M1 H1 locs1 → W p l e R s m args below meth c H1 locs1 (cells + rm.cells) (slots + rm.slots) Q (F0 m (pc + 3) ls (v :: rest))) : W p l e R s m args below meth c H locs cells slots Q (F0 m pc ls st) := by
  refine mc_U F hM hC cw hpre hb hc hq hn hsize hst hW hdg hf fun r M2 H1 locs1 hP h1 _ => ?_
  obtain ⟨rfl, rfl⟩ := hP
  exact kk H1 locs1 h1
theorem mc_Uv (F : mFx p m c cc nL s args own meth ret0 G A) (hM : mWd G A s.heap M H locs) (hC : mMet l y ws rm (.ref b :: As) G Pre (pPost M1 (none))) (cw : va_CU R s args own C owner index x y bytes maxL ret ws rm rm.cells rm.slots n) {fs : List Value} (hb : M b = some (eO ci fs)) {q : vw_C} (hc : vwCl[ci]? = some q) (hq : q.1 = C) (hpre : Pre M) (hn : As.length = n) (hsize : ls.size = nL) (hst : st = As.reverse ++ .ref b :: rest) (hW : (rest.map fun v => v.category).sum ≤ 8) (hdg : decode cc pc = .ok (.invokevirtual index, 3)) (hf : cells + rm.cells ≤ R.cells ∧ slots + rm.slots ≤ R.slots)
    (kk : ∀ (H1 : Heap) (locs1 : List Loc), mWd G A s.heap M1 H1 locs1 → W p l e R s m args below meth c H1 locs1 (cells + rm.cells) (slots + rm.slots) Q (F0 m (pc + 3) ls (rest))) : W p l e R s m args below meth c H locs cells slots Q (F0 m pc ls st) := by
  refine mc_U F hM hC cw hpre hb hc hq hn hsize hst hW hdg hf fun r M2 H1 locs1 hP h1 _ => ?_
  obtain ⟨rfl, rfl⟩ := hP
  exact kk H1 locs1 h1
theorem mc_F (F : mFx p m c cc nL s args own meth ret0 G A) (hM : mWd G A s.heap M H locs) (hC : mMet l y ws rm (.ref b :: As) G Pre Post) (cw : va_CI R s args own C index x y bytes maxL ret ws rm rm.cells rm.slots n) (hpre : Pre M) {fs : List Value} (hb : M b = some (eO ci fs)) {q : vw_C} (hc : vwCl[ci]? = some q) (hq : q.1 = C) {cC : ClassId} (hat : ClassAt s C cC) (hn : As.length = n) (hsize : ls.size = nL) (hst : st = As.reverse ++ .ref b :: rest) (hW : (rest.map fun v => v.category).sum ≤ 8) (hdg : decode cc pc = .ok (.invokeinterface index count, 5)) (hf : cells + rm.cells ≤ R.cells ∧ slots + rm.slots ≤ R.slots)
    (kk : ∀ (r : Option Value) (M' : mM) (H1 : Heap) (locs1 : List Loc), Post M r M' → mWd G A s.heap M' H1 locs1 → H.size ≤ H1.size → W p l e R s m args below meth c H1 locs1 (cells + rm.cells) (slots + rm.slots) Q (F0 m (pc + 5) ls (r.toList ++ rest))) : W p l e R s m args below meth c H locs cells slots Q (F0 m pc ls st) := by
  subst hq
  exact mc_run5 (va_runF hat F.1 (hC M H.size hpre) cw ⟨mPre.blind, hM.recv F.2.1 hb hc, fun U hU hW => mPre.at F hM hU hW _⟩ rfl hn hsize hst (lv_room hW) hdg hf) F.2.2.2.2.1 hM kk
theorem mc_Fa (F : mFx p m c cc nL s args own meth ret0 G A) (hM : mWd G A s.heap M H locs) (hC : mMet l y ws rm (.ref b :: As) G Pre (pPost M1 (some v))) (cw : va_CI R s args own C index x y bytes maxL ret ws rm rm.cells rm.slots n) {fs : List Value} (hb : M b = some (eO ci fs)) {q : vw_C} (hc : vwCl[ci]? = some q) (hq : q.1 = C) {cC : ClassId} (hat : ClassAt s C cC) (hpre : Pre M) (hn : As.length = n) (hsize : ls.size = nL) (hst : st = As.reverse ++ .ref b :: rest) (hW : (rest.map fun v => v.category).sum ≤ 8) (hdg : decode cc pc = .ok (.invokeinterface index count, 5)) (hf : cells + rm.cells ≤ R.cells ∧ slots + rm.slots ≤ R.slots)
    (kk : ∀ (H1 : Heap) (locs1 : List Loc), mWd G A s.heap M1 H1 locs1 → W p l e R s m args below meth c H1 locs1 (cells + rm.cells) (slots + rm.slots) Q (F0 m (pc + 5) ls (v :: rest))) : W p l e R s m args below meth c H locs cells slots Q (F0 m pc ls st) := by
  refine mc_F F hM hC cw hpre hb hc hq hat hn hsize hst hW hdg hf fun r M2 H1 locs1 hP h1 _ => ?_
  obtain ⟨rfl, rfl⟩ := hP
  exact kk H1 locs1 h1
theorem mc_Fv (F : mFx p m c cc nL s args own meth ret0 G A) (hM : mWd G A s.heap M H locs) (hC : mMet l y ws rm (.ref b :: As) G Pre (pPost M1 (none))) (cw : va_CI R s args own C index x y bytes maxL ret ws rm rm.cells rm.slots n) {fs : List Value} (hb : M b = some (eO ci fs)) {q : vw_C} (hc : vwCl[ci]? = some q) (hq : q.1 = C) {cC : ClassId} (hat : ClassAt s C cC) (hpre : Pre M) (hn : As.length = n) (hsize : ls.size = nL) (hst : st = As.reverse ++ .ref b :: rest) (hW : (rest.map fun v => v.category).sum ≤ 8) (hdg : decode cc pc = .ok (.invokeinterface index count, 5)) (hf : cells + rm.cells ≤ R.cells ∧ slots + rm.slots ≤ R.slots)
    (kk : ∀ (H1 : Heap) (locs1 : List Loc), mWd G A s.heap M1 H1 locs1 → W p l e R s m args below meth c H1 locs1 (cells + rm.cells) (slots + rm.slots) Q (F0 m (pc + 5) ls (rest))) : W p l e R s m args below meth c H locs cells slots Q (F0 m pc ls st) := by
  refine mc_F F hM hC cw hpre hb hc hq hat hn hsize hst hW hdg hf fun r M2 H1 locs1 hP h1 _ => ?_
  obtain ⟨rfl, rfl⟩ := hP
  exact kk H1 locs1 h1
theorem mc_Iv (F : mFx p m c cc nL s args own meth ret0 G A) (hM : mWd G A s.heap M H locs) (hC : mMet l y ws rm (.ref b :: As) G Pre (pPost M1 none)) (cw : CallB R s args own index y bytes maxL none ws rm rm.cells rm.slots n ∧ y.name = "<init>" ∧ (Cond.instanceMethod y).before args s = true) (hpre : Pre M) (hn : As.length = n) (hsize : ls.size = nL) (hst : st = As.reverse ++ .ref b :: rest) (hW : (rest.map fun v => v.category).sum ≤ 8) (hdg : decode cc pc = .ok (.invokespecial index, 3)) (hf : cells + rm.cells ≤ R.cells ∧ slots + rm.slots ≤ R.slots)
    (kk : ∀ (H1 : Heap) (locs1 : List Loc), mWd G A s.heap M1 H1 locs1 → W p l e R s m args below meth c H1 locs1 (cells + rm.cells) (slots + rm.slots) Q (F0 m (pc + 3) ls rest)) : W p l e R s m args below meth c H locs cells slots Q (F0 m pc ls st) := by
  refine mc_I F hM hC cw hpre hn hsize hst hW hdg hf fun r M2 H1 locs1 hP h1 _ => ?_
  obtain ⟨rfl, rfl⟩ := hP
  exact kk H1 locs1 h1
/-- a nest mate's word -/
theorem mN_w (F : mFx p m c cc nL s args own meth ret0 G A) {w : Cond} (hw : w ∈ lw_tbl) (hk : mXk w = true) : va_Nw w s := F.2.2.1.1 w hw hk
/-- what a call of a list's method asks of the tables -/
theorem mFw (F : mFx p m c cc nL s args own meth ret0 G A) {x y : MethodName} {C : String} (hx : x ∈ mIs) (hp : Cond.publicMethod y ∈ lw_tbl) (hu : Cond.unhidden C x.name x.desc ∈ lw_tbl) (hc : Cond.castable C x.cls ∈ lw_tbl) : va_Fw C x y s := va_Fw.of (A := args) (va_Nw.use rfl (F.2.2.1.2.1 x hx).1) (va_Nw.use rfl (F.2.2.1.2.1 x hx).2) (va_Nw.use rfl (F.2.2.1.1 _ hp rfl)) (va_Nw.use rfl (F.2.2.1.1 _ hu rfl)) (va_Nw.use rfl (F.2.2.1.1 _ hc rfl))
theorem mr_castS (F : mFx p m c cc nL s args own meth ret0 G A) (hM : mWd G A s.heap M H locs) {fs : List Value} (hb : M a = some (eO ci fs)) {q : vw_C} (hc : vwCl[ci]? = some q) (hlink : Cond.classLink own index q.1 ∈ lw_all) (hdg : decode cc pc = .ok (.checkcast index, 3))
    (k : W p l e R s m args below meth c H locs cells slots Q (F0 m (pc + 3) ls (.ref a :: rest))) : W p l e R s m args below meth c H locs cells slots Q (F0 m pc ls (.ref a :: rest)) :=
  va_castS F.1.1 F.1.2.1 F.1.2.2.2.1 (F.1.2.2.2.2 _ hlink) (F.2.1.1 ci q hc).2 (hM.recv F.2.1 hb hc) hdg k
theorem mr_instS (F : mFx p m c cc nL s args own meth ret0 G A) (hM : mWd G A s.heap M H locs) {fs : List Value} (hb : M a = some (eO ci fs)) {q : vw_C} (hc : vwCl[ci]? = some q) (hlink : Cond.classLink own index q.1 ∈ lw_all) (hdg : decode cc pc = .ok (.instanceof index, 3))
    (k : W p l e R s m args below meth c H locs cells slots Q (F0 m (pc + 3) ls (.int (nI 1) :: rest))) : W p l e R s m args below meth c H locs cells slots Q (F0 m pc ls (.ref a :: rest)) :=
  va_instS F.1.1 F.1.2.1 F.1.2.2.2.1 (F.1.2.2.2.2 _ hlink) (F.2.1.1 ci q hc).2 (hM.recv F.2.1 hb hc) hdg k
end CC0
