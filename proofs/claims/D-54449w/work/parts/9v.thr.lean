/-! THROWING: a new exception, a callee's that goes on -/
abbrev xtN : List String := ["java/lang/RuntimeException", "java/lang/Exception"]
def xtW (L : List Cond) : Bool := L.all (fun w => (goodWord w || (mXk w && w.onTables)) && decide (w ∈ lw_tbl))
def xtG (L : List Cond) : Bool := L.all (fun w => vx_ot w)
theorem xt_1 : xtW (vx_at0 "DiskPacks" 56 "java/lang/IndexOutOfBoundsException" xtN) = true := by decide +kernel
theorem xt_2 : xtW (vx_at0 "DiskPacks" 59 "java/lang/IllegalArgumentException" xtN) = true := by decide +kernel
theorem xt_3 : xtW (vx_at0 "DiskPacks" 62 "java/lang/IllegalStateException" xtN) = true := by decide +kernel
theorem xt_4 : xtW (vx_atM "java/lang/ArrayStoreException" xtN) = true := by decide +kernel
theorem xg_1 : xtG (Cond.classLink "DiskPacks" 54 "java/lang/IndexOutOfBoundsException" :: Cond.initialized "java/lang/IndexOutOfBoundsException" :: vx_at0 "DiskPacks" 56 "java/lang/IndexOutOfBoundsException" xtN) = true := by decide +kernel
theorem xg_2 : xtG (Cond.classLink "DiskPacks" 57 "java/lang/IllegalArgumentException" :: Cond.initialized "java/lang/IllegalArgumentException" :: vx_at0 "DiskPacks" 59 "java/lang/IllegalArgumentException" xtN) = true := by decide +kernel
theorem xg_3 : xtG (Cond.classLink "DiskPacks" 60 "java/lang/IllegalStateException" :: Cond.initialized "java/lang/IllegalStateException" :: vx_at0 "DiskPacks" 62 "java/lang/IllegalStateException" xtN) = true := by decide +kernel
theorem xg_4 : xtG (vx_atM "java/lang/ArrayStoreException" xtN) = true := by decide +kernel
section THR
variable {p : Program} {l : Launch} {e : Env} {R : Room} {s : State} {m : MethodId} {args : Array Value} {below : List Frame} {meth : Method} {c : Code} {H : Heap} {locs : List Loc} {cells slots : Nat} {Q : State → Prop}
variable {cc : ByteArray} {pc : Nat} {ls : Array Slot} {rest st : List Value} {G : mG} {A : Nat → Prop} {M M0 : mM} {nL : Nat} {own : String} {ret0 : Option FieldType} {P : Option Value → mM → Prop} {PX : String → mM → Prop} {mc ms : Nat}
variable {y : MethodName} {bytes : ByteArray} {maxL n index : Nat} {ret : Option FieldType} {rm : Room} {Pre : mM → Prop} {As : List Value} {b ci : Nat} {C E0 : String} {ws : List Cond}
theorem xt_hat (F : mFx p m c cc nL s args own meth ret0 G A) {L : List Cond} (h : xtW L = true) : ∀ w ∈ L, w.before args s = true := by
  intro w hw
  have h1 := List.all_eq_true.mp h w hw
  rw [Bool.and_eq_true, Bool.or_eq_true] at h1
  obtain ⟨h2, h3⟩ := h1
  have h3 := of_decide_eq_true h3
  rcases h2 with h2 | h2
  · exact F.1.2.2.2.2 w (List.mem_filter.mpr ⟨h3, h2⟩)
  · rw [Bool.and_eq_true] at h2
    exact va_Nw.use h2.2 (F.2.2.1.1 w h3 h2.1)
theorem mx_throw0 (F : mFx p m c cc nL s args "DiskPacks" meth ret0 G A) (hQ : mEndX G M0 s P PX below args mc ms A Q) (htab : ∀ x ∈ c.exceptionTable.toList, False) (hM : mWd G A s.heap M H locs) (htr : l.stackTraces = false) {cls : String} {ik ic : Nat} (hcls : Bundle.fit cls = true) (hk : Cond.classLink "DiskPacks" ik cls ∈ lw_all) (hini : Cond.initialized cls ∈ lw_all) (hat : xtW (vx_at0 "DiskPacks" ic cls xtN) = true) (hgood : xtG (Cond.classLink "DiskPacks" ik cls :: Cond.initialized cls :: vx_at0 "DiskPacks" ic cls xtN) = true) (hsize : ls.size = nL)
    (d0 : decode cc pc = .ok (.new ik, 3)) (d3 : decode cc (pc + 3) = .ok (.dup, 1)) (d4 : decode cc (pc + 4) = .ok (.invokespecial ic, 3)) (d7 : decode cc (pc + 7) = .ok (.athrow, 1)) (hR : 20 ≤ R.frames) (hRl : 200 ≤ R.locals) (hW : (rest.map fun v => v.category).sum ≤ 8) (hf : cells + 1 ≤ R.cells ∧ slots + 6 ≤ R.slots) (hc : cells + 1 ≤ mc) (hs : slots + 6 ≤ ms) (hP : PX cls M) : W p l e R s m args below meth c H locs cells slots Q (F0 m pc ls rest) := by
  obtain ⟨rfl, rfl⟩ := hQ
  refine vx_throw0 F.1.1 F.1.2.1 htr F.1.2.2.2.1 hcls (by decide +kernel) (F.1.2.2.2.2 _ hk) (F.1.2.2.2.2 _ hini) (xt_hat F hat) (fun w hw => List.all_eq_true.mp hgood w hw) F.2.2.2.1.1 F.2.2.2.1.2.1 hM.2.2 (hsize.trans F.1.2.2.1.symm) d0 d3 d4 d7 (fun x hx => (htab x hx).elim) (show 2 + 3 < R.frames by omega) (show _ + (13 * (2 + 1) + 42) ≤ R.locals by omega) hf.1 hf.2 F.2.2.2.2.2.1 (fun t _ h1 h2 => ⟨M, hP, fun a e ha => (hM.1 a e ha).kept (h2 a (hM.1.lt ha)), hM.2.1, ?_⟩) hM.2.2.2.2 hc hs
  exact ⟨Nat.le_trans hM.2.2.1 h1, fun q q1 q2 => (h2 q (Nat.lt_of_lt_of_le q1 hM.2.2.1)).trans (hM.2.2.2.1 q q1 q2)⟩
/-- a contract of a method that throws -/
abbrev mNo (l : Launch) (y : MethodName) (ws : List Cond) (rm : Room) (av : List Value) (G : mG) (M0 : mM) (E0 : String) : Prop := mMetX l y ws rm av G (pPre M0) (fun _ _ _ => False) (fun _ E M' => E = E0 ∧ M' = M0)
theorem mx_Vn (F : mFx p m c cc nL s args own meth ret0 G A) (hM : mWd G A s.heap M H locs) (hC : mNo l y ws rm (.ref b :: As) G M E0) (cw : CallW R s args own C index y bytes maxL ret ws rm rm.cells rm.slots n) {fs : List Value} (hb : M b = some (eO ci fs)) {q : vw_C} (hc : vwCl[ci]? = some q) (hq : q.1 = C) (hn : As.length = n) (hsize : ls.size = nL) (hst : st = As.reverse ++ .ref b :: rest) (hW : (rest.map fun v => v.category).sum ≤ 8) (hdg : decode cc pc = .ok (.invokevirtual index, 3)) (hf : cells + rm.cells ≤ R.cells ∧ slots + rm.slots ≤ R.slots)
    (hQ : mEndX G M0 s P PX below args mc ms A Q) (htab : ∀ x ∈ c.exceptionTable.toList, False) (hmc : cells + rm.cells ≤ mc) (hms : slots + rm.slots ≤ ms) (hP : PX E0 M) : W p l e R s m args below meth c H locs cells slots Q (F0 m pc ls st) :=
  mx_V F hM hC cw rfl hb hc hq hn hsize hst hW hdg hf (fun E ce q9 M' H1 locs1 hX hM1 _ h1 h2 h3 => by
    obtain ⟨rfl, rfl⟩ := hX
    exact mx_out F hQ hM1 hP (fun x hx => (htab x hx).elim) h1 h2 h3 hmc hms) (fun r M' H1 locs1 h => h.elim)
theorem mx_Sn (F : mFx p m c cc nL s args own meth ret0 G A) (hM : mWd G A s.heap M H locs) (hC : mNo l y ws rm As G M E0) (cw : CallB R s args own index y bytes maxL ret ws rm rm.cells rm.slots n ∧ (Cond.static y).before args s = true) (hn : As.length = n) (hsize : ls.size = nL) (hst : st = As.reverse ++ rest) (hW : (rest.map fun v => v.category).sum ≤ 8) (hdg : decode cc pc = .ok (.invokestatic index, 3)) (hf : cells + rm.cells ≤ R.cells ∧ slots + rm.slots ≤ R.slots)
    (hQ : mEndX G M0 s P PX below args mc ms A Q) (htab : ∀ x ∈ c.exceptionTable.toList, False) (hmc : cells + rm.cells ≤ mc) (hms : slots + rm.slots ≤ ms) (hP : PX E0 M) : W p l e R s m args below meth c H locs cells slots Q (F0 m pc ls st) :=
  mx_S F hM hC cw rfl hn hsize hst hW hdg hf (fun E ce q9 M' H1 locs1 hX hM1 _ h1 h2 h3 => by
    obtain ⟨rfl, rfl⟩ := hX
    exact mx_out F hQ hM1 hP (fun x hx => (htab x hx).elim) h1 h2 h3 hmc hms) (fun r M' H1 locs1 h => h.elim)
end THR
