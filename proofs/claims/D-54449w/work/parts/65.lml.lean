/-! LAMBDAS: the row that makes an object -/
abbrev lamC (cK : ClassId) (vs : List Value) : Cell := { cls := cK, slots := vs.toArray, vm := .none }
/-- a contract by its walk, with the method's own name at hand -/
theorem mMet.ofN {l : Launch} {y : MethodName} {cc : ByteArray} {nL : Nat} {ret : Option FieldType} {rm : Room} {av : List Value} {G : mG} {Pre : mM → Prop} {Post : mM → Option Value → mM → Prop} (hy : plainFor y = true) (hlen : (lg_sl av).length ≤ nL)
    (body : ∀ (p : Program) (e : Env) (s : State) (m : MethodId) (args : Array Value) (below : List Frame) (meth : Method) (c : Code) (A : Nat → Prop) (Q : State → Prop) (M : mM), Pre M → mFx p m c cc nL s args y.cls meth ret G A → s.methodNamed? y = some m → mEnd G M s (Post M) below args rm.cells rm.slots A Q → mWd G A s.heap M s.heap [] → ∀ ls : Array Slot, lv_has ls nL (lv_args 0 av) →
      W p l e rm s m args below meth c s.heap [] 0 0 Q (F0 m 0 ls [])) : mMet l y (ws_ y cc nL ret) rm av G Pre Post := by
  intro M sz hpre
  refine va_MetF (cc := cc) (maxL := nL) (ret := ret) hy rfl ?_
  intro p e s m args below meth c s₁ B hml hv
  obtain ⟨rfl, hsz, hOn, hK, hX, hZ⟩ := hv
  have hts := atoms_spec (ws := ws_ y cc nL ret) B.pre
  have hts : ∀ w ∈ lw_all, w.before _ s = true := fun w h => hts w (List.mem_cons_of_mem _ h)
  subst hsz
  have hl := lv_entry av (n := nL) hlen
  rw [lg_entry_eq]
  exact body p e s m _ below meth c _ _ M hpre ⟨⟨B.exec, B.bytes, hml, findClass_of_methodNamed B.named, hts⟩, hK, hX, hZ, fun q h => Or.inr h, B.notSynchronized, B.returns⟩ B.named ⟨rfl, fun _ _ _ _ _ _ _ _ _ _ _ _ k => k⟩ ⟨hOn, fun q h => Or.inl h, va_S.rf⟩ _ hl
section LML
variable {p : Program} {l : Launch} {e : Env} {R : Room} {s : State} {m : MethodId} {args : Array Value} {below : List Frame} {meth : Method} {c : Code} {H : Heap} {locs : List Loc} {cells slots : Nat} {Q : State → Prop}
variable {cc : ByteArray} {pc : Nat} {ls : Array Slot} {rest st : List Value} {G : mG} {A : Nat → Prop} {M : mM} {nL : Nat} {own : String} {ret0 : Option FieldType}
theorem mr_lam (F : mFx p m c cc nL s args own meth ret0 G A) (hM : mWd G A s.heap M H locs) (k : Nat) {x : MethodName} {index : Nat} {σ : Jvm.Lambda.Shape} (hq : mSites[k]? = some (x, pc, index, σ)) (hnm : s.methodNamed? x = some m) {tys : Array FieldType} (hlay : ((σ.file x.cls).bind fun f => Jvm.layoutFields f 0).map (fun z => z.2.1) = some tys) {vals : List Value} (hlen : vals.length = σ.captured.length) (hnar : (tys.toList.zip vals).map (fun z => narrow z.1 z.2) = vals) (hfit : ∀ (i : Nat) (v : Value), vals[i]? = some v → ∃ t, tys[i]? = some t ∧ fits t v = true)
    (hst : st = vals.reverse ++ rest) (hW : (st.map fun v => v.category).sum ≤ 8) (hsize : ls.size = nL) (hcells : cells + 1 ≤ R.cells) (hslots : slots + vals.length ≤ R.slots) (hloc : 3080 ≤ R.locals) (hdg : decode cc pc = .ok (.invokedynamic index, 5))
    (kk : ∀ (a : Nat) (H1 : Heap), M a = none → H.size = a → mWd G A s.heap (mup M a (.inr (lamC (G.2.1 (20 + k)) vals))) H1 locs → W p l e R s m args below meth c H1 locs (cells + 1) (slots + vals.length) Q (F0 m (pc + 5) ls (.ref a :: rest))) : W p l e R s m args below meth c H locs cells slots Q (F0 m pc ls st) := by
  intro T hT X
  obtain ⟨m', kS, cfS, i0, p0, hm', hkS, hcfS, hshape, hfind, hmade, hcan⟩ := F.2.2.1.2.2 k _ hq
  cases hnm.symm.trans hm'
  obtain ⟨bsm, nt, desc, site, hc, hnt, hsite, hpar⟩ := lam_site hshape
  obtain ⟨kS', hkS', hnameS⟩ := className_of_methodNamed hnm
  cases hkS.symm.trans hkS'
  obtain ⟨kK, hkK, htyK, hkindK⟩ := lam_types (args := args) hmade hkS (F.1.2.2.2.2 _ q2201) (by rw [hnameS]; exact hlay)
  have e1 : ((kK.instanceTypes.toList.zip vals).map fun (t, v) => narrow t v) = vals := by rw [htyK]; exact hnar
  obtain ⟨X₁, st1⟩ := X.lambdaMakes F.1.1 (g := F0 m pc ls st) rfl (hsize.trans F.1.2.2.1.symm) (by rw [F.1.2.1]; exact hdg) (vals := vals) (rest := rest) hkS hfind hcfS hc hnt (parseLong_of_parse hsite) (by rw [hpar]; exact hlen) hst hkK
    (by rw [X.admits.platform]; show 2 * 0 + (st.map fun v => v.category).sum + 3072 ≤ R.locals; omega) hcells (by rw [e1]; exact hslots)
    (fun i v hv => by
      rw [e1] at hv
      rw [List.getElem?_toArray] at hv
      obtain ⟨t, h1, h2⟩ := hfit i v hv
      simp [State.fitsSlot, State.slotType?, hkK, hkindK, htyK, h1, h2])
  rw [e1] at X₁ st1
  have hnew : (T.pushCell (lamC (G.2.1 (20 + k)) vals)).heap[T.heap.size]? = some (lamC (G.2.1 (20 + k)) vals) := State.heap_pushCell_size _ _
  have hold : ∀ q : Nat, q < T.heap.size → (T.pushCell (lamC (G.2.1 (20 + k)) vals)).heap[q]? = T.heap[q]? := fun q hq => by
    show (T.heap.push _)[q]? = _
    rw [Array.getElem?_push, if_neg (Nat.ne_of_lt hq)]
  have hsz : (T.pushCell (lamC (G.2.1 (20 + k)) vals)).heap.size = T.heap.size + 1 := by
    show (T.heap.push _).size = _
    rw [Array.size_push]
  subst hT
  have hM1 : mWd G A s.heap (mup M T.heap.size (.inr (lamC (G.2.1 (20 + k)) vals))) (T.pushCell (lamC (G.2.1 (20 + k)) vals)).heap locs := hM.push F.2.2.2.2.1 hsz hold hnew
  obtain ⟨t2, a1, b1⟩ := kk T.heap.size _ hM.fresh rfl hM1 (T.pushCell (lamC (G.2.1 (20 + k)) vals)) rfl (by simpa using X₁)
  exact ⟨t2, st1 _ a1, b1⟩
end LML
