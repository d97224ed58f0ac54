/-! LAMBDAS: what is known of a made class -/
/-- its one method's bytes fc, its fields' entries fix, the entry mi of what it calls -/
def lamOk (σ : Jvm.Lambda.Shape) (own : String) (fc : List UInt8) (fl : Nat) (fix : List Nat) (mi ci cu nt : Nat) : Bool :=
  match σ.file own with
  | none => false
  | some D => match Jvm.layoutMethods D, Jvm.layoutFields D 0 with
    | some ms, some lay =>
      (match ms[1]? with
        | none => false
        | some m1 => match m1.code with
          | none => false
          | some c => decide (c.code.data.toList = fc) && decide (c.maxLocals = fl) && decide (m1.accessFlags = 1) && decide (m1.sig.returnType = some .boolean)) &&
      (decide (D.constantPool[mi]? = some (.methodref ci nt)) && decide (D.constantPool[ci]? = some (.class_ cu)) && decide (D.constantPool.string? cu = some σ.implClass) && decide (ci ≠ D.thisClass) && decide (D.constantPool.className? ci = some σ.implClass) && decide (D.constantPool.nameAndType? nt = some (σ.implName, σ.implDesc.toString))) &&
      fix.zipIdx.all (fun z => match D.constantPool[z.1]? with
        | some (.fieldref _ fnt) => (match D.constantPool.nameAndType? fnt with
          | some nd => decide (lay.1.findIdx? (fun y => y.name == nd.1) = some z.2) && (match lay.1[z.2]? with
            | some f => !f.isStatic && decide (f.slot = z.2)
            | none => false)
          | none => false)
        | _ => false)
    | _, _ => false
theorem lam_facts {s : State} {args : Array Value} {d cK : ClassId} {σ : Jvm.Lambda.Shape} {dk : Class} (h : Jvm.Lambda.isMade { classPath := fun _ => none } s.vm d σ cK = true) (hd : s.vm.classes[d]? = some dk) (hO : (Cond.instantiable "java/lang/Object" 0).before args s = true) {fc : List UInt8} {fl mi ci cu nt : Nat} {fix : List Nat} (hok : lamOk σ dk.name fc fl fix mi ci cu nt = true) :
    ∃ (k tk : Class) (methk : Method) (ck : Code) (t0 : ClassId) (t found : MethodId) (iface : ClassId), s.vm.classes[cK]? = some k ∧ k.name = dk.name ++ "$$Lambda" ∧ s.vm.method? ⟨cK, 1⟩ = some methk ∧ methk.code = some ck ∧ ck.code.data.toList = fc ∧ ck.maxLocals = fl ∧ methk.locks = false ∧ methk.accessFlags = 1 ∧ methk.sig.returnType = some .boolean ∧
      s.vm.findClass σ.implClass = some t0 ∧ s.vm.classes[t0]? = some tk ∧ tk.isInterface = σ.implItf ∧ ((methodIn t0 σ.implName σ.implDesc.toString tk.isInterface none).ask { classPath := fun _ => none } s.vm).1 = .ok t ∧ s.vm.methodReady cK mi t ∧ s.vm.classReady cK ci t0 ∧
      (∃ file, k.cf = some file ∧ file.constantPool[mi]? = some (.methodref ci nt) ∧ file.constantPool.nameAndType? nt = some (σ.implName, σ.implDesc.toString)) ∧
      (∀ j i : Nat, fix[j]? = some i → ∃ f : Field, s.vm.fieldReady cK i cK f ∧ f.isStatic = false ∧ f.slot = j) ∧
      s.vm.findClass σ.iface = some iface ∧ ((methodIn iface σ.name σ.sam.toString true none).ask { classPath := fun _ => none } s.vm).1 = .ok found ∧ selectMethod {} s.vm cK found = .method ⟨cK, 1⟩ := by
  obtain ⟨dk', k, ok, tk, file, cf, object, iface, t0, lay, methods, target, found, h1, h2, h3, h4, h5, h6, h7, h8, h9, h10, h11, h12, h13, hrec, -, -, -, hitf, hpool, hmeth, hfld, -, hres, hsel⟩ := Jvm.Lambda.isMade_spec h
  cases hd.symm.trans h1
  obtain ⟨cO, kO, hfO, hkO, -, -, -, hsz⟩ := Cond.instantiable_spec hO
  cases hfO.symm.trans h5
  cases hkO.symm.trans h7
  rw [hsz] at h8
  unfold lamOk at hok
  rw [h4] at hok
  simp only [h9, h8, Bool.and_eq_true, decide_eq_true_eq] at hok
  obtain ⟨⟨hok1, ⟨⟨⟨⟨⟨p1, p2⟩, p3⟩, p4⟩, p5⟩, p6⟩⟩, hok3⟩ := hok
  cases hm1 : methods[1]? with
  | none => rw [hm1] at hok1; exact absurd hok1 (by simp)
  | some m1 =>
    cases hc1 : m1.code with
    | none => simp only [hm1, hc1] at hok1; exact absurd hok1 (by simp)
    | some c1 =>
      simp only [hm1, hc1, Bool.and_eq_true, decide_eq_true_eq] at hok1
      obtain ⟨⟨⟨c2, c3⟩, c4⟩, c5⟩ := hok1
      obtain ⟨b, hb, hsame⟩ := hmeth 1 m1 hm1
      obtain ⟨-, -, s3, s4, x, y, hx, hy, -, s5, s6, -⟩ := Jvm.Lambda.sameMethod_spec hsame
      cases hx.symm.trans hc1
      refine ⟨k, tk, b, y, t0, target, found, iface, h2, hrec.1, by simp [Vm.method?, h2, hb], hy, by rw [s6]; exact c2, by rw [s5]; exact c3, by simp [Method.locks, Method.isSynchronized, s4, c4, hasFlag, Acc.synchronized], by rw [s4]; exact c4, by rw [s3]; exact c5, h10, h11, hitf, h12,
        ⟨k, h2, hres mi _ (Jvm.Lambda.resolvedOf_method p1 p5 h10 h11 p6 h12)⟩, ⟨k, h2, hres ci _ (Jvm.Lambda.resolvedOf_class p2 p4 p3 h10)⟩, ⟨file, h3, by rw [hpool.2.1]; exact p1, by rw [hpool.2.1]; exact p6⟩, fun j i hj => ?_, h6, h13, hsel⟩
      have hz : (i, j) ∈ fix.zipIdx := by rw [List.mem_zipIdx_iff_getElem?]; exact hj
      have q := List.all_eq_true.mp hok3 (i, j) hz
      dsimp only at q
      cases e1 : cf.constantPool[i]? with
      | none => simp only [e1] at q; exact absurd q (by simp)
      | some u =>
        cases u
        case fieldref cx fnt =>
          simp only [e1] at q
          cases e2 : cf.constantPool.nameAndType? fnt with
          | none => simp only [e2] at q; exact absurd q (by simp)
          | some nd =>
            simp only [e2, Bool.and_eq_true, decide_eq_true_eq] at q
            obtain ⟨q1, q2⟩ := q
            cases e3 : lay.1[j]? with
            | none => simp only [e3] at q2; exact absurd q2 (by simp)
            | some f =>
              simp only [e3, Bool.and_eq_true, Bool.not_eq_true', decide_eq_true_eq] at q2
              exact ⟨f, ⟨k, j, k, h2, hres i _ (Jvm.Lambda.resolvedOf_field e1 e2 q1), h2, hfld j f e3⟩, q2.1, q2.2⟩
        all_goals
          rw [e1] at q
          exact absurd (show false = true from q) (by decide)
theorem lo0 : lamOk lsh0 "DiskPacks$TextReader" [42, 180, 0, 16, 42, 180, 0, 18, 43, 184, 0, 26, 172] 2 [16, 18] 26 22 21 25 = true := by decide +kernel
theorem lo1 : lamOk lsh1 "DiskPacks$State" [42, 180, 0, 17, 42, 180, 0, 19, 182, 0, 27, 172] 1 [17, 19] 27 23 22 26 = true := by decide +kernel
theorem lo2 : lamOk lsh2 "DiskPacks$State" [42, 180, 0, 17, 42, 180, 0, 19, 182, 0, 27, 172] 1 [17, 19] 27 23 22 26 = true := by decide +kernel
theorem lo3 : lamOk lsh3 "DiskPacks$State" [42, 180, 0, 17, 42, 180, 0, 19, 182, 0, 27, 172] 1 [17, 19] 27 23 22 26 = true := by decide +kernel
theorem lo4 : lamOk lsh4 "DiskPacks$TextReader" [42, 180, 0, 15, 43, 184, 0, 23, 172] 2 [15] 23 19 18 22 = true := by decide +kernel
theorem lo5 : lamOk lsh5 "DiskPacks$TextReader" [42, 180, 0, 16, 42, 180, 0, 18, 43, 184, 0, 26, 172] 2 [16, 18] 26 22 21 25 = true := by decide +kernel
theorem lo6 : lamOk lsh6 "DiskPacks$TextReader" [42, 180, 0, 17, 42, 180, 0, 19, 42, 180, 0, 21, 43, 184, 0, 29, 172] 2 [17, 19, 21] 29 25 24 28 = true := by decide +kernel
theorem lo7 : lamOk lsh7 "DiskPacks$TextReader" [42, 180, 0, 16, 42, 180, 0, 18, 43, 184, 0, 26, 172] 2 [16, 18] 26 22 21 25 = true := by decide +kernel
theorem lo8 : lamOk lsh8 "DiskPacks$TextReader" [42, 180, 0, 17, 42, 180, 0, 19, 43, 184, 0, 27, 172] 2 [17, 19] 27 23 22 26 = true := by decide +kernel
theorem lo9 : lamOk lsh9 "DiskPacks$TextReader" [42, 180, 0, 15, 43, 184, 0, 23, 172] 2 [15] 23 19 18 22 = true := by decide +kernel
theorem lo10 : lamOk lsh10 "DiskPacks$TextReader" [42, 180, 0, 16, 42, 180, 0, 18, 43, 184, 0, 26, 172] 2 [16, 18] 26 22 21 25 = true := by decide +kernel
theorem lo11 : lamOk lsh11 "DiskPacks$State" [42, 180, 0, 15, 182, 0, 22, 172] 1 [15] 22 19 18 21 = true := by decide +kernel
theorem lo12 : lamOk lsh12 "DiskPacks$State" [42, 180, 0, 17, 42, 180, 0, 19, 182, 0, 27, 172] 1 [17, 19] 27 23 22 26 = true := by decide +kernel
