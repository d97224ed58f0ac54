/-! A METHOD WITH A HANDLER that catches: the store of a head that does not fit -/
theorem mMetW.ofT {l : Launch} {y : MethodName} {cc : ByteArray} {nL : Nat} {ret : Option FieldType} {hh : List (Nat × Nat × Nat × Nat)} {rm : Room} {av : List Value} {G : mG} {Pre : mM → Prop} {Post : mM → Option Value → mM → Prop} (hy : plainName y.cls = true) (hlen : (lg_sl av).length ≤ nL)
    (body : ∀ (p : Program) (e : Env) (s : State) (m : MethodId) (args : Array Value) (below : List Frame) (meth : Method) (c : Code) (A : Nat → Prop) (Q : State → Prop) (M : mM), Pre M → mFx p m c cc nL s args y.cls meth ret G A → c.exceptionTable.toList = tableOf hh → mEnd G M s (Post M) below args rm.cells rm.slots A Q → mWd G A s.heap M s.heap [] → ∀ ls : Array Slot, lv_has ls nL (lv_args 0 av) →
      W p l e rm s m args below meth c s.heap [] 0 0 Q (F0 m 0 ls [])) : mMet l y (wsW_ y cc nL ret hh) rm av G Pre Post := by
  intro M sz hpre
  refine va_MetW (cc := cc) (maxL := nL) (ret := ret) (hh := hh) hy rfl ?_
  intro p e s m args below meth c s₁ B hml hv
  obtain ⟨rfl, hsz, hOn, hK, hX, hZ⟩ := hv
  have hts0 := atoms_spec (ws := wsW_ y cc nL ret hh) B.pre
  have hts : ∀ w ∈ lw_all, w.before _ s = true := fun w h => hts0 w (List.mem_cons_of_mem _ h)
  have htab := vx_table (x := y) B (hts0 _ List.mem_cons_self)
  subst hsz
  have hl := lv_entry av (n := nL) hlen
  rw [lg_entry_eq]
  exact body p e s m _ below meth c _ _ M hpre ⟨⟨B.exec, B.bytes, hml, findClass_of_methodNamed B.named, hts⟩, hK, hX, hZ, fun q h => Or.inr h, B.notSynchronized, B.returns⟩ htab ⟨rfl, fun _ _ _ _ _ _ _ _ _ _ _ _ k => k⟩ ⟨hOn, fun q h => Or.inl h, va_S.rf⟩ _ hl
set_option maxHeartbeats 4000000 in
theorem cs_X1_fits_no (l : Launch) (htr : l.stackTraces = false) {G : mG} {M0 : mM} {q0 v i : Nat} {fn : Nat → Option Nat} {fsv : List Value} (h_q : M0 q0 = some (eQ (G.2.1 5) 3 fn)) (h_v : M0 v = some (eO 3 fsv)) (hi : i < 3) : mMet l yX1_fits (wsW_ yX1_fits cX1_fits 4 (some .boolean) [(0, 5, 6, 1)]) (mRm 100 3 50) [.ref q0, .int (nI i), .ref v] G (pPre M0) (pPost M0 (some (.int (nI 0)))) := by
  refine mMetW.ofT (by decide +kernel) (Nat.le_of_ble_eq_true rfl) fun p e s m args below meth c A Q M hM0 F htab hQ hM ls hl => ?_
  have hM0 : M0 = M := hM0.symm
  subst hM0
  have hl : lv_has ls 4 [(0, .ref q0), (1, .int (nI i)), (2, .ref v)] := hl
  refine lv_aload_n F.1.1 F.1.2.1 dX1_fits_0 rfl (lv_at hl 0 rfl) ?_
  refine lv_iload_n F.1.1 F.1.2.1 dX1_fits_1 rfl (lv_at hl 1 rfl) ?_
  refine lv_aload_n F.1.1 F.1.2.1 dX1_fits_2 rfl (lv_at hl 2 rfl) ?_
  refine mr_aastX F hM 5 3 h_q rfl h_v rfl (F.2.2.2.1.2.2.2.2.2.2 _ (by decide : ("DiskPacks$ServoHead", "DiskPacks$DataHead") ∈ mNl)) hi (by omega) dX1_fits_3 ?_
  refine vx_vm F.1.1 htr (names := xtN) (nb := 40) (by decide +kernel) (by decide +kernel) rfl rfl (xt_hat F xt_4) (fun w hw => List.all_eq_true.mp xg_4 w hw) F.2.2.2.1.1 F.2.2.2.1.2.1 hM.2.2 (hl.1.trans F.1.2.2.1.symm) (by decide +kernel) (by decide +kernel) (by decide) (Nat.le_of_ble_eq_true rfl) (Nat.le_of_ble_eq_true rfl) (by decide) (Nat.le_of_ble_eq_true rfl) (Nat.le_of_ble_eq_true rfl) F.2.2.2.2.2.1 (fun H1 q9 ce h1 h2 h3 h4 h5 h6 => ?_)
  have hM1 : mWd G A s.heap M0 H1 [] := ⟨fun a e ha => (hM.1 a e ha).kept (h2 a (hM.1.lt ha)), hM.2.1, h3⟩
  refine vx_catch F.1.2.2.2.1 (name := "java/lang/ArrayStoreException") [] _ [] htab (fun z hz => nomatch hz) (by decide) (by decide) (F.1.2.2.2.2 _ q199) (va_Nw.use rfl (F.2.2.1.1 _ q250 rfl)) h4 h5 h6 ?_
  refine lv_astore_n (lv' := [(3, _), (0, _), (1, _), (2, _)]) F.1.1 F.1.2.1 dX1_fits_6 rfl hl (by decide) rfl (fun ls hl => ?_)
  refine mr_iconst F 0 dX1_fits_7 (by decide +kernel) ?_
  exact mr_zret F hQ rfl hM1 ⟨rfl, rfl⟩ (Nat.le_of_ble_eq_true rfl) (Nat.le_of_ble_eq_true rfl) dX1_fits_8
