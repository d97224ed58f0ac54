/-! METHODS WITH HANDLERS that return: contracts by their walk, calls of a nest mate's static one -/
theorem mMetW.of {l : Launch} {y : MethodName} {cc : ByteArray} {nL : Nat} {ret : Option FieldType} {hh : List (Nat × Nat × Nat × Nat)} {rm : Room} {av : List Value} {G : mG} {Pre : mM → Prop} {Post : mM → Option Value → mM → Prop} (hy : plainName y.cls = true) (hlen : (lg_sl av).length ≤ nL)
    (body : ∀ (p : Program) (e : Env) (s : State) (m : MethodId) (args : Array Value) (below : List Frame) (meth : Method) (c : Code) (A : Nat → Prop) (Q : State → Prop) (M : mM), Pre M → mFx p m c cc nL s args y.cls meth ret G A → meth.name = y.name → mEnd G M s (Post M) below args rm.cells rm.slots A Q → mWd G A s.heap M s.heap [] → ∀ ls : Array Slot, lv_has ls nL (lv_args 0 av) →
      W p l e rm s m args below meth c s.heap [] 0 0 Q (F0 m 0 ls [])) : mMet l y (wsW_ y cc nL ret hh) rm av G Pre Post := by
  intro M sz hpre
  refine va_MetW (cc := cc) (maxL := nL) (ret := ret) (hh := hh) hy rfl ?_
  intro p e s m args below meth c s₁ B hml hv
  obtain ⟨rfl, hsz, hOn, hK, hX, hZ⟩ := hv
  have hts := atoms_spec (ws := wsW_ y cc nL ret hh) B.pre
  have hts : ∀ w ∈ lw_all, w.before _ s = true := fun w h => hts w (List.mem_cons_of_mem _ h)
  subst hsz
  have hl := lv_entry av (n := nL) hlen
  rw [lg_entry_eq]
  exact body p e s m _ below meth c _ _ M hpre ⟨⟨B.exec, B.bytes, hml, findClass_of_methodNamed B.named, hts⟩, hK, hX, hZ, fun q h => Or.inr h, B.notSynchronized, B.returns⟩ (name_of_methodNamed B.named B.method).1 ⟨rfl, fun _ _ _ _ _ _ _ _ _ _ _ _ k => k⟩ ⟨hOn, fun q h => Or.inl h, va_S.rf⟩ _ hl
section CMK
variable {p : Program} {l : Launch} {e : Env} {R : Room} {s : State} {m : MethodId} {args : Array Value} {below : List Frame} {meth : Method} {c : Code} {H : Heap} {locs : List Loc} {cells slots : Nat} {Q : State → Prop}
variable {cc : ByteArray} {pc : Nat} {ls : Array Slot} {rest st : List Value} {G : mG} {A : Nat → Prop} {M M1 : mM} {nL : Nat} {own : String} {ret0 : Option FieldType}
variable {y : MethodName} {bytes : ByteArray} {maxL n index : Nat} {ret : Option FieldType} {rm : Room} {Pre : mM → Prop} {Post : mM → Option Value → mM → Prop} {As : List Value} {host : String} {hh : List (Nat × Nat × Nat × Nat)} {v : Value}
theorem mc_SNW (F : mFx p m c cc nL s args own meth ret0 G A) (hM : mWd G A s.heap M H locs) (hC : mMet l y (wsW_ y bytes maxL ret hh) rm As G Pre (pPost M1 (some v))) (hcode : Cond.codeWith y bytes maxL ret hh ∈ lw_all) (hlink : Cond.methodLinkNest own index y host ∈ lw_tbl) (hstat : Cond.static y ∈ lw_all) (hini : Cond.initialized y.cls ∈ lw_all) (hd : y.cls ≠ "java/lang/invoke/MethodHandle" ∧ y.cls ≠ "java/lang/invoke/VarHandle" ∧ (parseMethodDescriptor y.desc).map (fun d => d.parameters.length) = some n) (hR : rm.frames + 1 ≤ R.frames ∧ 8 + (maxL + 11) + rm.locals ≤ R.locals)
    (hpre : Pre M) (hn : As.length = n) (hsize : ls.size = nL) (hst : st = As.reverse ++ rest) (hW : (rest.map fun v => v.category).sum ≤ 8) (hdg : decode cc pc = .ok (.invokestatic index, 3)) (hf : cells + rm.cells ≤ R.cells ∧ slots + rm.slots ≤ R.slots)
    (kk : ∀ (H1 : Heap) (locs1 : List Loc), mWd G A s.heap M1 H1 locs1 → W p l e R s m args below meth c H1 locs1 (cells + rm.cells) (slots + rm.slots) Q (F0 m (pc + 3) ls (v :: rest))) : W p l e R s m args below meth c H locs cells slots Q (F0 m pc ls st) := by
  have hG := lw_methW hcode
  have hK : Back l R p e below s args y 3 8 (PreOf R rm.cells rm.slots (mPre G M H.size As)) (PostOf (mQc G M H.size (pPost M1 (some v) M)) rm.cells rm.slots (mA M H.size)) :=
    va_backW (hh := hh) (bytes := bytes) (maxL := maxL) (ret := ret) (hC M H.size hpre) mPre.blind rfl rfl hR.1 hR.2 (pay_in F.1.2.2.2.2 hG) List.mem_cons_self (fun a' U hW => word_at hW (Or.inl (by first | rfl | simp [Cond.onTables, Cond.keeps, Cond.steady])) (F.1.2.2.2.2 _ hini))
  obtain ⟨mk, methM, cM, hnamed, hmethM, -, -, -, -, -, -, hsigM⟩ := Cond.codeWith_spec (F.1.2.2.2.2 _ hcode)
  have hstatic : methM.isStatic = true := Cond.static_spec hnamed hmethM (F.1.2.2.2.2 _ hstat)
  obtain ⟨kP, hkP, -⟩ := className_of_methodNamed hnamed
  have hinitP : kP.init = .initialized := Cond.initialized_spec (findClass_of_methodNamed hnamed) hkP (F.1.2.2.2.2 _ hini)
  have hr : va_Run p l e R s m args below meth c H locs cells slots rm.cells rm.slots (F0 m pc ls st) rest (mQc G M H.size (pPost M1 (some v) M) As.toArray) (mA M H.size) := by
    intro T hT X
    obtain ⟨vm₁, X₁, hstep₁⟩ := X.invokestaticNest F.1.1 F.1.2.2.2.1 (va_Nw.use rfl (F.2.2.1.1 _ hlink rfl)) hnamed hmethM hstatic hkP hinitP ⟨hd.1, hd.2.1⟩ (g := F0 m pc ls st) rfl (argsL := As) (rest := rest) (by
      have h2 := hd.2.2
      rw [hsigM] at h2
      exact hn.trans (Option.some.inj h2).symm) hst (by rw [F.1.2.1]; exact hdg)
    obtain ⟨w, ⟨U', l2, c2, s2⟩, X', ⟨g', mk', t, L, e1, e2, hq, h1, hL, h2, h3⟩, hsteps⟩ := hK m meth c ⟨T.setVm vm₁, locs, cells, slots⟩ (F0 m pc ls rest) (.invokestatic index) mk As.toArray X₁ rfl (hsize.trans F.1.2.2.1.symm) (by rw [F.1.2.1]; exact hdg) (lv_room hW) (X₁.named hnamed) ⟨hf.1, hf.2, mPre.at (U := T.setVm vm₁) F hM hT X₁.warmed As⟩
    dsimp only [Pt.U, Pt.locs, Pt.cells, Pt.slots] at X' e1 e2 h1 h2 h3 hsteps
    subst h1; subst h2; subst h3
    exact ⟨w, (T.setVm vm₁).calling g' mk' As.toArray, t, U', L, hT, X', hL, e1, e2, hq, fun tg htg => hstep₁ _ fun acts => by rw [doInvoke_state]; exact hsteps.trans htg⟩
  refine mc_run (Post := fun _ => pPost M1 (some v) M) hr F.2.2.2.2.1 hM fun r M2 H1 locs1 hP h1 _ => ?_
  obtain ⟨rfl, rfl⟩ := hP
  exact kk H1 locs1 h1
end CMK
set_option maxHeartbeats 4000000 in
theorem cs_X1_fits_ok (l : Launch) {G : mG} {M0 : mM} {q0 v i : Nat} {fn : Nat → Option Nat} {fsv : List Value} (h_q : M0 q0 = some (eQ (G.2.1 5) 3 fn)) (h_v : M0 v = some (eO 4 fsv)) (hi : i < 3) : mMet l yX1_fits (wsW_ yX1_fits cX1_fits 4 (some .boolean) [(0, 5, 6, 1)]) (mRm 1 0 0) [.ref q0, .int (nI i), .ref v] G (pPre M0) (pPost (mup M0 q0 (eQ (G.2.1 5) 3 (va_up fn i (some v)))) (some (.int 1))) := by
  refine mMetW.of (by decide +kernel) (Nat.le_of_ble_eq_true rfl) fun p e s m args below meth c A Q M hM0 F hnm hQ hM ls hl => ?_
  have hM0 : M0 = M := hM0.symm
  subst hM0
  have hl : lv_has ls 4 [(0, .ref q0), (1, .int (nI i)), (2, .ref v)] := hl
  refine lv_aload_n F.1.1 F.1.2.1 dX1_fits_0 rfl (lv_at hl 0 rfl) ?_
  refine lv_iload_n F.1.1 F.1.2.1 dX1_fits_1 rfl (lv_at hl 1 rfl) ?_
  refine lv_aload_n F.1.1 F.1.2.1 dX1_fits_2 rfl (lv_at hl 2 rfl) ?_
  refine mr_aast F.1.1 F.1.2.1 F.2.1 hM 5 4 h_q rfl h_v rfl hi (by omega) dX1_fits_3 (fun H locs hM => ?_)
  refine mr_iconst F 1 dX1_fits_4 (by decide +kernel) ?_
  exact mr_zret F hQ rfl hM ⟨rfl, rfl⟩ (Nat.le_of_ble_eq_true rfl) (Nat.le_of_ble_eq_true rfl) dX1_fits_5
