/-! CONTRACTS OVER THE WORLD AS A MAP: what a method asks of the map and what becomes of it; calls; ends -/
section MC0
/-- the words that no list carries, moved along one by one -/
def mXk : Cond → Bool
  | .castable _ _ => true
  | .arrayOver (.object _) => true
  | .publicMethod _ => true
  | .privateMethod _ => true
  | .unhidden _ _ _ => true
  | .methodLinkNest _ _ _ _ => true
  | .fieldLinkNest _ _ _ _ _ _ => true
  | .declares _ => true
  | _ => false
/-- the interfaces' methods that are called -/
def mIs : List MethodName := [⟨"java/util/List", "size", "()I"⟩, ⟨"java/util/List", "get", "(I)Ljava/lang/Object;"⟩, ⟨"java/util/List", "add", "(Ljava/lang/Object;)Z"⟩, ⟨"DiskPacks$Reason", "holds", "()Z"⟩, ⟨"DiskPacks$Order", "carryOut", "(LDiskPacks$State;)Z"⟩]
def mX (G : mG) (U : State) : Prop := (∀ w ∈ lw_tbl, mXk w = true → va_Nw w U) ∧ (∀ x ∈ mIs, va_Nw (.declares x) U ∧ va_Nw (.interfaceMethod x.cls x.cls x.name x.desc) U) ∧ mLam G.2.1 U
theorem mXw.warm {w : Cond} (hk : mXk w = true) {s U : State} (hW : s.WarmedH U.vm) (h : va_Nw w s) : va_Nw w U := by
  have tr : ∀ {c : Cond}, c.onTables = true → c.before #[] (s.setVm U.vm) = true → va_Nw c U := fun hc h => va_tabs hc (rfl : (s.setVm U.vm).vm = U.vm) h
  cases w <;> first | (exact absurd hk Bool.false_ne_true) | skip
  case castable => exact va_Nw.warmC hW h
  case publicMethod => exact tr rfl (by rw [Cond.publicMethod_setVm hW.alike]; exact h)
  case privateMethod => exact tr rfl (by rw [Cond.privateMethod_setVm hW.alike]; exact h)
  case unhidden => exact tr rfl (by rw [Cond.unhidden_setVm hW.alike]; exact h)
  case methodLinkNest => exact va_Nw.warmM hW h
  case fieldLinkNest => exact va_Nw.warmF hW h
  case declares => exact va_Nw.warmD hW h
  case arrayOver t =>
    cases t <;> first | (exact absurd hk Bool.false_ne_true) | skip
    exact va_AO.moved hW.alike h
theorem mX.warm {G : mG} {s U : State} (hW : s.WarmedH U.vm) (h : mX G s) : mX G U := by
  refine ⟨fun w hw hk => mXw.warm hk hW (h.1 w hw hk), fun x hx => ?_, h.2.2.warm hW⟩
  obtain ⟨h1, h2⟩ := h.2.1 x hx
  refine ⟨va_Nw.warmD hW h1, ?_⟩
  obtain ⟨r, meth, hn, -⟩ := Cond.declares_spec h1
  have hx2 : x.cls ≠ "java/lang/invoke/MethodHandle" ∧ x.cls ≠ "java/lang/invoke/VarHandle" := by
    have : ∀ x ∈ mIs, x.cls ≠ "java/lang/invoke/MethodHandle" ∧ x.cls ≠ "java/lang/invoke/VarHandle" := by decide +kernel
    exact this x hx
  exact va_tabs rfl (rfl : (s.setVm U.vm).vm = U.vm) (show (Cond.interfaceMethod x.cls x.cls x.name x.desc).before #[] (s.setVm U.vm) = true by rw [Cond.interfaceMethod_setVm hW.alike (r := r) hn hx2]; exact h2)
/-- classes that are not castable -/
def mNl : List (String × String) := [("DiskPacks$ServoHead", "DiskPacks$DataHead"), ("java/lang/IllegalArgumentException", "java/lang/IndexOutOfBoundsException"), ("java/lang/IllegalStateException", "java/lang/IndexOutOfBoundsException"), ("java/lang/IllegalStateException", "java/lang/IllegalArgumentException")]
/-- statics that nobody writes; classes that are not castable -/
def mZ (G : mG) (A : Nat → Prop) (U : State) (H : Heap) : Prop := vx_Zq Bundle.tN "UNASSIGNED_STACK" Bundle.steD A U H ∧ vx_Zq Bundle.tN "SUPPRESSED_SENTINEL" Bundle.listD A U H ∧ va_Z "java/util/ArrayList" "DEFAULTCAPACITY_EMPTY_ELEMENTDATA" "[Ljava/lang/Object;" (.ref G.2.2) A U H ∧ va_T (.object "java/lang/Object") G.2.2 0 (fun _ => .null) A U H ∧ va_Z "java/lang/String" "COMPACT_STRINGS" "Z" (.int 1) A U H ∧ va_Zq "jdk/internal/util/Preconditions" "SIOOBE_FORMATTER" "Ljava/util/function/BiFunction;" A U H ∧ ∀ q ∈ mNl, va_Nc q.1 q.2 U
theorem mZ.moved {G : mG} {A : Nat → Prop} {u U : State} {H : Heap} (hvm : u.vm.Alike U.vm) (h : mZ G A u H) : mZ G A U H := ⟨h.1.moved hvm, h.2.1.moved hvm, h.2.2.1.moved hvm, h.2.2.2.1.moved hvm, h.2.2.2.2.1.moved hvm, h.2.2.2.2.2.1.moved hvm, fun q hq => (h.2.2.2.2.2.2 q hq).moved hvm⟩
theorem mZ.kept {G : mG} {A : Nat → Prop} {U : State} {H H1 : Heap} (h : mZ G A U H) (hq : ∀ a : Nat, a < H.size → ¬ A a → H1[a]? = H[a]?) : mZ G A U H1 := ⟨h.1.kept hq, h.2.1.kept hq, h.2.2.1.kept hq, h.2.2.2.1.kept hq, h.2.2.2.2.1.kept hq, h.2.2.2.2.2.1.kept hq, h.2.2.2.2.2.2⟩
theorem mZ.narrow {G : mG} {A B : Nat → Prop} {U : State} {H : Heap} (h : mZ G A U H) (hAB : ∀ q, B q → A q) : mZ G B U H := ⟨h.1.narrow hAB, h.2.1.narrow hAB, h.2.2.1.narrow hAB, h.2.2.2.1.narrow hAB, h.2.2.2.2.1.narrow hAB, h.2.2.2.2.2.1.narrow hAB, h.2.2.2.2.2.2⟩
def mSt (G : mG) (M : mM) (U : State) : Prop := mOn G M U.heap ∧ va_K G.1 vwCl (mtys G) U ∧ mX G U ∧ mZ G (mA M U.heap.size) U U.heap
def mPre (G : mG) (M : mM) (sz : Nat) (av : List Value) : Array Value → State → Prop := va_Pc av (fun U => U.heap.size = sz ∧ mSt G M U)
def mQc (G : mG) (M : mM) (sz : Nat) (P : Option Value → mM → Prop) : Array Value → State → Outcome → State → Prop := fun _ st oc t => ∃ (r : Option Value) (M' : mM), oc = .returned r ∧ P r M' ∧ mOn G M' t.heap ∧ (∀ q, M' q ≠ none → mA M sz q) ∧ va_F (mA M sz) st t
def mXc (G : mG) (M : mM) (sz : Nat) (PX : String → mM → Prop) : String → State → State → Prop := fun E st t => ∃ M' : mM, PX E M' ∧ mOn G M' t.heap ∧ (∀ q, M' q ≠ none → mA M sz q) ∧ va_F (mA M sz) st t
/-- a contract: any map with Pre; behind it a map and an answer with Post -/
def mMet (l : Launch) (y : MethodName) (ws : List Cond) (rm : Room) (av : List Value) (G : mG) (Pre : mM → Prop) (Post : mM → Option Value → mM → Prop) : Prop := ∀ (M : mM) (sz : Nat), Pre M → Met l y ws rm (mPre G M sz av) (mQc G M sz (Post M)) rm.cells rm.slots (mA M sz)
/-- a contract of a method that returns, or throws an object of the class E with PostX -/
def mMetX (l : Launch) (y : MethodName) (ws : List Cond) (rm : Room) (av : List Value) (G : mG) (Pre : mM → Prop) (Post : mM → Option Value → mM → Prop) (PostX : mM → String → mM → Prop) : Prop := ∀ (M : mM) (sz : Nat), Pre M → vx_Met l y ws rm (mPre G M sz av) (mQc G M sz (Post M)) (mXc G M sz (PostX M)) rm.cells rm.slots (mA M sz)
theorem mPre.blind {G : mG} {M : mM} {sz : Nat} {av : List Value} : FrameBlind (mPre G M sz av) := fun a U g mk q => by
  obtain ⟨q0, q1, q2, q3, q4, q5⟩ := q
  exact ⟨q0, q1, q2, va_K.moved (u := U) (U := U.calling g mk a) (Vm.Alike.refl U.vm) q3, q4.warm (U := U.calling g mk a) (State.WarmedH.refl U), q5.moved (u := U) (U := U.calling g mk a) (Vm.Alike.refl U.vm)⟩
/-- what holds all through a method's run -/
def mFx (p : Program) (m : MethodId) (c : Code) (cc : ByteArray) (nL : Nat) (s : State) (args : Array Value) (own : String) (meth : Method) (ret : Option FieldType) (G : mG) (A : Nat → Prop) : Prop := CallFix p m c cc nL s args lw_all own ∧ va_K G.1 vwCl (mtys G) s ∧ mX G s ∧ mZ G A s s.heap ∧ (∀ q, s.heap.size ≤ q → A q) ∧ meth.locks = false ∧ meth.sig.returnType = ret
/-- a callee's start out of the caller's midst -/
theorem mPre.at {p : Program} {m : MethodId} {c : Code} {cc : ByteArray} {nL : Nat} {s : State} {args : Array Value} {own : String} {meth : Method} {ret : Option FieldType} {G : mG} {A : Nat → Prop} {M : mM} {H : Heap} {locs : List Loc} (F : mFx p m c cc nL s args own meth ret G A) (hM : mWd G A s.heap M H locs) {U : State} (hU : U.heap = H) (hW : s.WarmedH U.vm) (av : List Value) : mPre G M H.size av av.toArray U := by
  obtain ⟨-, hK, hX, hZ, hA, -, -⟩ := F
  refine ⟨rfl, by rw [hU], by rw [hU]; exact hM.1, va_K.moved hW.alike hK, hX.warm hW, ?_⟩
  rw [hU]
  refine (mZ.moved hW.alike (hZ.kept hM.2.2.2.1)).narrow (fun q h => ?_)
  rcases h with h | h
  · exact hM.2.1 q h
  · exact hA q (Nat.le_trans hM.2.2.1 h)
theorem mWd.back {G : mG} {A : Nat → Prop} {H0 : Heap} {M M' : mM} {H : Heap} {locs L : List Loc} {st₀ t T' : State} (hM : mWd G A H0 M H locs) (hA : ∀ q, H0.size ≤ q → A q) (h0 : st₀.heap = H) (e1 : T'.heap = t.heap) (hL : ∀ q ∈ L, mA M H.size q.base) (hOn : mOn G M' t.heap) (hdom : ∀ q, M' q ≠ none → mA M H.size q) (hF : va_F (mA M H.size) st₀ t) : mWd G A H0 M' T'.heap (locs ++ L) ∧ H.size ≤ T'.heap.size := by
  have hAA : ∀ q, mA M H.size q → A q := fun q h => by
    rcases h with h | h
    · exact hM.2.1 q h
    · exact hA q (Nat.le_trans hM.2.2.1 h)
  obtain ⟨k1, k2, k3⟩ := vx_keep h0 e1 hM.2.2 (fun q _ h => hAA q h) hAA hL hF
  exact ⟨⟨by rw [e1]; exact hOn, fun q h => hAA q (hdom q h), k3⟩, k1⟩
theorem mWd.recv {s : State} {H : Heap} {locs : List Loc} {G : mG} {A : Nat → Prop} {H0 : Heap} {M : mM} {b ci : Nat} {q : vw_C} {fs : List Value} (hK : va_K G.1 vwCl (mtys G) s) (hM : mWd G A H0 M H locs) (hb : M b = some (eO ci fs)) (hc : vwCl[ci]? = some q) : ∃ cell : Cell, H[b]? = some cell ∧ cell.vm.isStatics = false ∧ s.vm.findClass q.1 = some cell.cls := by
  obtain ⟨q', h1, cell, g1, g2, g3, -⟩ := hM.1 b _ hb
  exact ⟨cell, g1, by rw [g3]; rfl, by rw [g2]; exact (hK.1 ci q hc).2.1⟩
end MC0
section MC1
variable {p : Program} {l : Launch} {e : Env} {R : Room} {s : State} {m : MethodId} {args : Array Value} {below : List Frame} {meth : Method} {c : Code} {H : Heap} {locs : List Loc} {cells slots : Nat} {Q : State → Prop}
variable {cc : ByteArray} {pc : Nat} {ls : Array Slot} {rest st : List Value} {G : mG} {A : Nat → Prop} {a : Nat} {M : mM} {nL : Nat} {own : String} {ret0 : Option FieldType}
variable {y : MethodName} {bytes : ByteArray} {maxL n index : Nat} {ret : Option FieldType} {rm : Room} {Pre : mM → Prop} {Post : mM → Option Value → mM → Prop} {PostX : mM → String → mM → Prop} {As : List Value} {b ci : Nat} {C : String} {ws : List Cond}
theorem mc_run {a0 : Array Value} (hr : va_Run p l e R s m args below meth c H locs cells slots rm.cells rm.slots (F0 m pc ls st) rest (mQc G M H.size (Post M) a0) (mA M H.size)) (hA : ∀ q, s.heap.size ≤ q → A q) (hM : mWd G A s.heap M H locs)
    (kk : ∀ (r : Option Value) (M' : mM) (H1 : Heap) (locs1 : List Loc), Post M r M' → mWd G A s.heap M' H1 locs1 → H.size ≤ H1.size → W p l e R s m args below meth c H1 locs1 (cells + rm.cells) (slots + rm.slots) Q (F0 m (pc + 3) ls (r.toList ++ rest))) : W p l e R s m args below meth c H locs cells slots Q (F0 m pc ls st) := by
  intro T hT X
  obtain ⟨v, st₀, t, T', L, h0, X', hL, e1, e2, ⟨r, M', hv, hp, hOn, hdom, hF⟩, st⟩ := hr T hT X
  cases hv
  obtain ⟨k1, k2⟩ := hM.back hA h0 e1 hL hOn hdom hF
  obtain ⟨t2, a1, b1⟩ := kk v M' T'.heap (locs ++ L) hp k1 k2 T' rfl X'
  exact ⟨t2, st t2 a1, b1⟩
theorem mc_V (F : mFx p m c cc nL s args own meth ret0 G A) (hM : mWd G A s.heap M H locs) (hC : mMet l y ws rm (.ref b :: As) G Pre Post) (cw : CallW R s args own C index y bytes maxL ret ws rm rm.cells rm.slots n) (hpre : Pre M) {fs : List Value} (hb : M b = some (eO ci fs)) {q : vw_C} (hc : vwCl[ci]? = some q) (hq : q.1 = C) (hn : As.length = n) (hsize : ls.size = nL) (hst : st = As.reverse ++ .ref b :: rest) (hW : (rest.map fun v => v.category).sum ≤ 8) (hdg : decode cc pc = .ok (.invokevirtual index, 3)) (hf : cells + rm.cells ≤ R.cells ∧ slots + rm.slots ≤ R.slots)
    (kk : ∀ (r : Option Value) (M' : mM) (H1 : Heap) (locs1 : List Loc), Post M r M' → mWd G A s.heap M' H1 locs1 → H.size ≤ H1.size → W p l e R s m args below meth c H1 locs1 (cells + rm.cells) (slots + rm.slots) Q (F0 m (pc + 3) ls (r.toList ++ rest))) : W p l e R s m args below meth c H locs cells slots Q (F0 m pc ls st) := by
  subst hq
  exact mc_run (va_runV F.1 (hC M H.size hpre) cw ⟨mPre.blind, hM.recv F.2.1 hb hc, fun U hU hW => mPre.at F hM hU hW _⟩ rfl hn hsize hst (lv_room hW) hdg hf) F.2.2.2.2.1 hM kk
theorem mc_S (F : mFx p m c cc nL s args own meth ret0 G A) (hM : mWd G A s.heap M H locs) (hC : mMet l y ws rm As G Pre Post) (cw : CallB R s args own index y bytes maxL ret ws rm rm.cells rm.slots n ∧ (Cond.static y).before args s = true) (hpre : Pre M) (hn : As.length = n) (hsize : ls.size = nL) (hst : st = As.reverse ++ rest) (hW : (rest.map fun v => v.category).sum ≤ 8) (hdg : decode cc pc = .ok (.invokestatic index, 3)) (hf : cells + rm.cells ≤ R.cells ∧ slots + rm.slots ≤ R.slots)
    (kk : ∀ (r : Option Value) (M' : mM) (H1 : Heap) (locs1 : List Loc), Post M r M' → mWd G A s.heap M' H1 locs1 → H.size ≤ H1.size → W p l e R s m args below meth c H1 locs1 (cells + rm.cells) (slots + rm.slots) Q (F0 m (pc + 3) ls (r.toList ++ rest))) : W p l e R s m args below meth c H locs cells slots Q (F0 m pc ls st) :=
  mc_run (va_runS F.1 (hC M H.size hpre) cw ⟨mPre.blind, fun U hU hW => mPre.at F hM hU hW _⟩ rfl hn hsize hst (lv_room hW) hdg hf) F.2.2.2.2.1 hM kk
theorem mc_I (F : mFx p m c cc nL s args own meth ret0 G A) (hM : mWd G A s.heap M H locs) (hC : mMet l y ws rm (.ref b :: As) G Pre Post) (cw : CallB R s args own index y bytes maxL none ws rm rm.cells rm.slots n ∧ y.name = "<init>" ∧ (Cond.instanceMethod y).before args s = true) (hpre : Pre M) (hn : As.length = n) (hsize : ls.size = nL) (hst : st = As.reverse ++ .ref b :: rest) (hW : (rest.map fun v => v.category).sum ≤ 8) (hdg : decode cc pc = .ok (.invokespecial index, 3)) (hf : cells + rm.cells ≤ R.cells ∧ slots + rm.slots ≤ R.slots)
    (kk : ∀ (r : Option Value) (M' : mM) (H1 : Heap) (locs1 : List Loc), Post M r M' → mWd G A s.heap M' H1 locs1 → H.size ≤ H1.size → W p l e R s m args below meth c H1 locs1 (cells + rm.cells) (slots + rm.slots) Q (F0 m (pc + 3) ls (r.toList ++ rest))) : W p l e R s m args below meth c H locs cells slots Q (F0 m pc ls st) :=
  mc_run (va_runI F.1 (hC M H.size hpre) cw ⟨mPre.blind, fun U hU hW => mPre.at F hM hU hW _⟩ rfl hn hsize hst (lv_room hW) hdg hf) F.2.2.2.2.1 hM kk
/-- the same, of a callee that may throw -/
theorem mx_run {a0 : Array Value} (hr : vx_Run p l e R s m args below meth c H locs cells slots rm.cells rm.slots (F0 m pc ls st) rest (mQc G M H.size (Post M) a0) (mXc G M H.size (PostX M)) (mA M H.size)) (hA : ∀ q, s.heap.size ≤ q → A q) (hM : mWd G A s.heap M H locs)
    (kx : ∀ (E : String) (ce : Cell) (q9 : Addr) (M' : mM) (H1 : Heap) (locs1 : List Loc), PostX M E M' → mWd G A s.heap M' H1 locs1 → H.size ≤ H1.size → H1[q9]? = some ce → ce.vm = .none → s.vm.findClass E = some ce.cls → vx_W p l e R s m args below meth c H1 locs1 (cells + rm.cells) (slots + rm.slots) Q (F0 m pc ls rest) q9)
    (kk : ∀ (r : Option Value) (M' : mM) (H1 : Heap) (locs1 : List Loc), Post M r M' → mWd G A s.heap M' H1 locs1 → H.size ≤ H1.size → W p l e R s m args below meth c H1 locs1 (cells + rm.cells) (slots + rm.slots) Q (F0 m (pc + 3) ls (r.toList ++ rest))) : W p l e R s m args below meth c H locs cells slots Q (F0 m pc ls st) := by
  intro T hT X
  rcases hr T hT X with ⟨v, st₀, t, T', L, h0, X', hL, e1, e2, ⟨r, M', hv, hp, hOn, hdom, hF⟩, st⟩ | ⟨q, st₀, t, T', L, E, ce, h0, X', hL, e1, e2, ⟨M', hp, hOn, hdom, hF⟩, hce, hcv, hcl, st⟩
  · cases hv
    obtain ⟨k1, k2⟩ := hM.back hA h0 e1 hL hOn hdom hF
    obtain ⟨t2, a1, b1⟩ := kk v M' T'.heap (locs ++ L) hp k1 k2 T' rfl X'
    exact ⟨t2, st t2 a1, b1⟩
  · obtain ⟨k1, k2⟩ := hM.back hA h0 e1 hL hOn hdom hF
    obtain ⟨t2, a1, b1⟩ := kx E ce q M' T'.heap (locs ++ L) hp k1 k2 (by rw [e1]; exact hce) hcv hcl T' rfl X'
    exact ⟨t2, st.trans a1, b1⟩
theorem mx_V (F : mFx p m c cc nL s args own meth ret0 G A) (hM : mWd G A s.heap M H locs) (hC : mMetX l y ws rm (.ref b :: As) G Pre Post PostX) (cw : CallW R s args own C index y bytes maxL ret ws rm rm.cells rm.slots n) (hpre : Pre M) {fs : List Value} (hb : M b = some (eO ci fs)) {q : vw_C} (hc : vwCl[ci]? = some q) (hq : q.1 = C) (hn : As.length = n) (hsize : ls.size = nL) (hst : st = As.reverse ++ .ref b :: rest) (hW : (rest.map fun v => v.category).sum ≤ 8) (hdg : decode cc pc = .ok (.invokevirtual index, 3)) (hf : cells + rm.cells ≤ R.cells ∧ slots + rm.slots ≤ R.slots)
    (kx : ∀ (E : String) (ce : Cell) (q9 : Addr) (M' : mM) (H1 : Heap) (locs1 : List Loc), PostX M E M' → mWd G A s.heap M' H1 locs1 → H.size ≤ H1.size → H1[q9]? = some ce → ce.vm = .none → s.vm.findClass E = some ce.cls → vx_W p l e R s m args below meth c H1 locs1 (cells + rm.cells) (slots + rm.slots) Q (F0 m pc ls rest) q9)
    (kk : ∀ (r : Option Value) (M' : mM) (H1 : Heap) (locs1 : List Loc), Post M r M' → mWd G A s.heap M' H1 locs1 → H.size ≤ H1.size → W p l e R s m args below meth c H1 locs1 (cells + rm.cells) (slots + rm.slots) Q (F0 m (pc + 3) ls (r.toList ++ rest))) : W p l e R s m args below meth c H locs cells slots Q (F0 m pc ls st) := by
  subst hq
  exact mx_run (vx_runV F.1 (hC M H.size hpre) cw ⟨mPre.blind, hM.recv F.2.1 hb hc, fun U hU hW => mPre.at F hM hU hW _⟩ rfl hn hsize hst (lv_room hW) hdg hf) F.2.2.2.2.1 hM kx kk
theorem mx_S (F : mFx p m c cc nL s args own meth ret0 G A) (hM : mWd G A s.heap M H locs) (hC : mMetX l y ws rm As G Pre Post PostX) (cw : CallB R s args own index y bytes maxL ret ws rm rm.cells rm.slots n ∧ (Cond.static y).before args s = true) (hpre : Pre M) (hn : As.length = n) (hsize : ls.size = nL) (hst : st = As.reverse ++ rest) (hW : (rest.map fun v => v.category).sum ≤ 8) (hdg : decode cc pc = .ok (.invokestatic index, 3)) (hf : cells + rm.cells ≤ R.cells ∧ slots + rm.slots ≤ R.slots)
    (kx : ∀ (E : String) (ce : Cell) (q9 : Addr) (M' : mM) (H1 : Heap) (locs1 : List Loc), PostX M E M' → mWd G A s.heap M' H1 locs1 → H.size ≤ H1.size → H1[q9]? = some ce → ce.vm = .none → s.vm.findClass E = some ce.cls → vx_W p l e R s m args below meth c H1 locs1 (cells + rm.cells) (slots + rm.slots) Q (F0 m pc ls rest) q9)
    (kk : ∀ (r : Option Value) (M' : mM) (H1 : Heap) (locs1 : List Loc), Post M r M' → mWd G A s.heap M' H1 locs1 → H.size ≤ H1.size → W p l e R s m args below meth c H1 locs1 (cells + rm.cells) (slots + rm.slots) Q (F0 m (pc + 3) ls (r.toList ++ rest))) : W p l e R s m args below meth c H locs cells slots Q (F0 m pc ls st) :=
  mx_run (vx_runS F.1 (hC M H.size hpre) cw ⟨mPre.blind, fun U hU hW => mPre.at F hM hU hW _⟩ rfl hn hsize hst (lv_room hW) hdg hf) F.2.2.2.2.1 hM kx kk
/-! ends -/
/-- what a body owes at a return: Q is reached from the machine's own end with P -/
def mEnd (G : mG) (M0 : mM) (s : State) (P : Option Value → mM → Prop) (below : List Frame) (args : Array Value) (mc ms : Nat) (A : Nat → Prop) (Q : State → Prop) : Prop := A = mA M0 s.heap.size ∧ ∀ (p : Program) (l : Launch) (e : Env) (R : Room) (m : MethodId) (meth : Method) (c : Code) (H : Heap) (locs : List Loc) (cells slots : Nat) (g : JFrame), W p l e R s m args below meth c H locs cells slots (MQ below (mQc G M0 s.heap.size P) args s mc ms (mA M0 s.heap.size)) g → W p l e R s m args below meth c H locs cells slots Q g
/-- what a body may owe at a throw -/
def mEndX (G : mG) (M0 : mM) (s : State) (P : Option Value → mM → Prop) (PX : String → mM → Prop) (below : List Frame) (args : Array Value) (mc ms : Nat) (A : Nat → Prop) (Q : State → Prop) : Prop := A = mA M0 s.heap.size ∧ Q = vx_MQ below (mQc G M0 s.heap.size P) (mXc G M0 s.heap.size PX) args s mc ms (mA M0 s.heap.size)
variable {P : Option Value → mM → Prop} {PX : String → mM → Prop} {M0 : mM} {mc ms : Nat}
theorem mr_iret {v : Int32} (F : mFx p m c cc nL s args own meth (some .int) G A) (hQ : mEnd G M0 s P below args mc ms A Q) (hM : mWd G A s.heap M H locs) (hP : P (some (.int v)) M) (hc : cells ≤ mc) (hs : slots ≤ ms) (hdg : decode cc pc = .ok (.ireturn, 1)) : W p l e R s m args below meth c H locs cells slots Q (F0 m pc ls [.int v]) := by
  obtain ⟨rfl, hQ⟩ := hQ
  exact hQ _ _ _ _ _ _ _ _ _ _ _ _ (W.widen hc hs (W.iret F.1.1 F.1.2.1 F.2.2.2.2.2.2 (fun t ht _ => ⟨_, M, rfl, hP, by rw [ht]; exact hM.1, hM.2.1, hM.2.2.F ht⟩) hM.2.2.2.2 hdg F.2.2.2.2.2.1))
theorem mr_zret {v : Int32} {ty : FieldType} (F : mFx p m c cc nL s args own meth (some ty) G A) (hQ : mEnd G M0 s P below args mc ms A Q) (hn : narrow ty (.int v) = .int v) (hM : mWd G A s.heap M H locs) (hP : P (some (.int v)) M) (hc : cells ≤ mc) (hs : slots ≤ ms) (hdg : decode cc pc = .ok (.ireturn, 1)) : W p l e R s m args below meth c H locs cells slots Q (F0 m pc ls [.int v]) := by
  obtain ⟨rfl, hQ⟩ := hQ
  exact hQ _ _ _ _ _ _ _ _ _ _ _ _ (W.widen hc hs (W.zret F.1.1 F.1.2.1 F.2.2.2.2.2.2 hn (fun t ht _ => ⟨_, M, rfl, hP, by rw [ht]; exact hM.1, hM.2.1, hM.2.2.F ht⟩) hM.2.2.2.2 hdg F.2.2.2.2.2.1))
theorem mr_fret {v : UInt32} (F : mFx p m c cc nL s args own meth (some .float) G A) (hQ : mEnd G M0 s P below args mc ms A Q) (hM : mWd G A s.heap M H locs) (hP : P (some (.float v)) M) (hc : cells ≤ mc) (hs : slots ≤ ms) (hdg : decode cc pc = .ok (.freturn, 1)) : W p l e R s m args below meth c H locs cells slots Q (F0 m pc ls [.float v]) := by
  obtain ⟨rfl, hQ⟩ := hQ
  exact hQ _ _ _ _ _ _ _ _ _ _ _ _ (W.widen hc hs (W.fret F.1.1 F.1.2.1 F.2.2.2.2.2.2 (fun t ht _ => ⟨_, M, rfl, hP, by rw [ht]; exact hM.1, hM.2.1, hM.2.2.F ht⟩) hM.2.2.2.2 hdg F.2.2.2.2.2.1))
theorem mr_dret {v : UInt64} (F : mFx p m c cc nL s args own meth (some .double) G A) (hQ : mEnd G M0 s P below args mc ms A Q) (hM : mWd G A s.heap M H locs) (hP : P (some (.double v)) M) (hc : cells ≤ mc) (hs : slots ≤ ms) (hdg : decode cc pc = .ok (.dreturn, 1)) : W p l e R s m args below meth c H locs cells slots Q (F0 m pc ls [.double v]) := by
  obtain ⟨rfl, hQ⟩ := hQ
  exact hQ _ _ _ _ _ _ _ _ _ _ _ _ (W.widen hc hs (W.dret F.1.1 F.1.2.1 F.2.2.2.2.2.2 (fun t ht _ => ⟨_, M, rfl, hP, by rw [ht]; exact hM.1, hM.2.1, hM.2.2.F ht⟩) hM.2.2.2.2 hdg F.2.2.2.2.2.1))
theorem mr_vret (F : mFx p m c cc nL s args own meth none G A) (hQ : mEnd G M0 s P below args mc ms A Q) (hM : mWd G A s.heap M H locs) (hP : P none M) (hc : cells ≤ mc) (hs : slots ≤ ms) (hdg : decode cc pc = .ok (.return_, 1)) : W p l e R s m args below meth c H locs cells slots Q (F0 m pc ls []) := by
  obtain ⟨rfl, hQ⟩ := hQ
  exact hQ _ _ _ _ _ _ _ _ _ _ _ _ (W.widen hc hs (W.vret F.1.1 F.1.2.1 F.2.2.2.2.2.2 (fun t ht _ => ⟨_, M, rfl, hP, by rw [ht]; exact hM.1, hM.2.1, hM.2.2.F ht⟩) hM.2.2.2.2 hdg F.2.2.2.2.2.1))
theorem mr_aret {v : Nat} {rt : FieldType} (F : mFx p m c cc nL s args own meth (some rt) G A) (hQ : mEnd G M0 s P below args mc ms A Q) (hrt : (∃ n, rt = .object n) ∨ ∃ t, rt = .array t) (hM : mWd G A s.heap M H locs) (hP : P (some (.ref v)) M) (hc : cells ≤ mc) (hs : slots ≤ ms) (hdg : decode cc pc = .ok (.areturn, 1)) : W p l e R s m args below meth c H locs cells slots Q (F0 m pc ls [.ref v]) := by
  obtain ⟨rfl, hQ⟩ := hQ
  exact hQ _ _ _ _ _ _ _ _ _ _ _ _ (W.widen hc hs (W.aret F.1.1 F.1.2.1 F.2.2.2.2.2.2 hrt (Or.inr ⟨_, rfl⟩) (fun t ht _ => ⟨_, M, rfl, hP, by rw [ht]; exact hM.1, hM.2.1, hM.2.2.F ht⟩) hM.2.2.2.2 hdg F.2.2.2.2.2.1))
theorem mr_nret {rt : FieldType} (F : mFx p m c cc nL s args own meth (some rt) G A) (hQ : mEnd G M0 s P below args mc ms A Q) (hrt : (∃ n, rt = .object n) ∨ ∃ t, rt = .array t) (hM : mWd G A s.heap M H locs) (hP : P (some (.null)) M) (hc : cells ≤ mc) (hs : slots ≤ ms) (hdg : decode cc pc = .ok (.areturn, 1)) : W p l e R s m args below meth c H locs cells slots Q (F0 m pc ls [.null]) := by
  obtain ⟨rfl, hQ⟩ := hQ
  exact hQ _ _ _ _ _ _ _ _ _ _ _ _ (W.widen hc hs (W.aret F.1.1 F.1.2.1 F.2.2.2.2.2.2 hrt (Or.inl rfl) (fun t ht _ => ⟨_, M, rfl, hP, by rw [ht]; exact hM.1, hM.2.1, hM.2.2.F ht⟩) hM.2.2.2.2 hdg F.2.2.2.2.2.1))
/-- thrown on, not caught here -/
theorem mx_out (F : mFx p m c cc nL s args own meth ret0 G A) (hQ : mEndX G M0 s P PX below args mc ms A Q) (hM : mWd G A s.heap M H locs) {E : String} (hP : PX E M) {ce : Cell} {q : Addr} (hout : ∀ x ∈ c.exceptionTable.toList, covers x pc = false) (hcell : H[q]? = some ce) (hv : ce.vm = .none) (hcl : s.vm.findClass E = some ce.cls) (hc : cells ≤ mc) (hs : slots ≤ ms) : vx_W p l e R s m args below meth c H locs cells slots Q (F0 m pc ls rest) q := by
  obtain ⟨rfl, rfl⟩ := hQ
  exact vx_out hout F.2.2.2.2.2.1 hcell hv hcl (fun t ht _ => ⟨M, hP, by rw [ht]; exact hM.1, hM.2.1, hM.2.2.F ht⟩) hM.2.2.2.2 hc hs
end MC1
section MC2
variable {l : Launch}
/-- a contract by its walk -/
theorem mMet.of {y : MethodName} {cc : ByteArray} {nL : Nat} {ret : Option FieldType} {rm : Room} {av : List Value} {G : mG} {Pre : mM → Prop} {Post : mM → Option Value → mM → Prop} (hy : plainFor y = true) (hlen : (lg_sl av).length ≤ nL)
    (body : ∀ (p : Program) (e : Env) (s : State) (m : MethodId) (args : Array Value) (below : List Frame) (meth : Method) (c : Code) (A : Nat → Prop) (Q : State → Prop) (M : mM), Pre M → mFx p m c cc nL s args y.cls meth ret G A → meth.name = y.name → mEnd G M s (Post M) below args rm.cells rm.slots A Q → mWd G A s.heap M s.heap [] → ∀ ls : Array Slot, lv_has ls nL (lv_args 0 av) →
      W p l e rm s m args below meth c s.heap [] 0 0 Q (F0 m 0 ls [])) : mMet l y (ws_ y cc nL ret) rm av G Pre Post := by
  intro M sz hpre
  refine va_MetF (cc := cc) (maxL := nL) (ret := ret) hy rfl ?_
  intro p e s m args below meth c s₁ B hml hv
  obtain ⟨rfl, hsz, hOn, hK, hX, hZ⟩ := hv
  have hts := atoms_spec (ws := ws_ y cc nL ret) B.pre
  have hts : ∀ w ∈ lw_all, w.before _ s = true := fun w h => hts w (List.mem_cons_of_mem _ h)
  subst hsz
  have hl := lv_entry av (n := nL) hlen
  rw [lg_entry_eq]
  exact body p e s m _ below meth c _ _ M hpre ⟨⟨B.exec, B.bytes, hml, findClass_of_methodNamed B.named, hts⟩, hK, hX, hZ, fun q h => Or.inr h, B.notSynchronized, B.returns⟩ (name_of_methodNamed B.named B.method).1 ⟨rfl, fun _ _ _ _ _ _ _ _ _ _ _ _ k => k⟩ ⟨hOn, fun q h => Or.inl h, va_S.rf⟩ _ hl
/-- a contract of a body that may throw, without handlers -/
theorem mMetX.of {y : MethodName} {cc : ByteArray} {nL : Nat} {ret : Option FieldType} {rm : Room} {av : List Value} {G : mG} {Pre : mM → Prop} {Post : mM → Option Value → mM → Prop} {PostX : mM → String → mM → Prop} (hy : plainName y.cls = true) (hlen : (lg_sl av).length ≤ nL)
    (body : ∀ (p : Program) (e : Env) (s : State) (m : MethodId) (args : Array Value) (below : List Frame) (meth : Method) (c : Code) (A : Nat → Prop) (Q : State → Prop) (M : mM), Pre M → mFx p m c cc nL s args y.cls meth ret G A → meth.name = y.name → mEnd G M s (Post M) below args rm.cells rm.slots A Q → mEndX G M s (Post M) (PostX M) below args rm.cells rm.slots A Q → (∀ x ∈ c.exceptionTable.toList, False) → mWd G A s.heap M s.heap [] → ∀ ls : Array Slot, lv_has ls nL (lv_args 0 av) →
      W p l e rm s m args below meth c s.heap [] 0 0 Q (F0 m 0 ls [])) : mMetX l y (ws_ y cc nL ret) rm av G Pre Post PostX := by
  intro M sz hpre
  refine vx_ofW (cc := cc) (maxL := nL) (ret := ret) hy rfl ?_
  intro p e s m args below meth c s₁ B hml htab hv
  obtain ⟨rfl, hsz, hOn, hK, hX, hZ⟩ := hv
  have hts := atoms_spec (ws := ws_ y cc nL ret) B.pre
  have hts : ∀ w ∈ lw_all, w.before _ s = true := fun w h => hts w (List.mem_cons_of_mem _ h)
  subst hsz
  have hl := lv_entry av (n := nL) hlen
  rw [lg_entry_eq]
  exact body p e s m _ below meth c _ _ M hpre ⟨⟨B.exec, B.bytes, hml, findClass_of_methodNamed B.named, hts⟩, hK, hX, hZ, fun q h => Or.inr h, B.notSynchronized, B.returns⟩ (name_of_methodNamed B.named B.method).1 ⟨rfl, fun _ _ _ _ _ _ _ _ _ _ _ _ k => vx_ret k⟩ ⟨rfl, rfl⟩ htab ⟨hOn, fun q h => Or.inl h, va_S.rf⟩ _ hl
end MC2
