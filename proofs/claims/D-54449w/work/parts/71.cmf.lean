/-! MAPS WITH NEW CELLS: what stays as it was; a State among other cells -/
theorem kp_ne {M : mM} {a q : Nat} {x : mE} (hq : M q = none) (ha : M a = some x) : a ≠ q := fun e => by rw [e, hq] at ha; cases ha
theorem kp_new {M : mM} {a q : Nat} {x e : mE} (hq : M q = none) (ha : M a = some x) : mup M q e a = some x := (mup_ne (kp_ne hq ha)).trans ha
theorem kp_put {M : mM} {a q : Nat} {x e : mE} (hne : a ≠ q) (ha : M a = some x) : mup M q e a = some x := (mup_ne hne).trans ha
theorem mWd.sub {G : mG} {A : Nat → Prop} {H0 : Heap} {M M' : mM} {H : Heap} {locs : List Loc} (h : mWd G A H0 M H locs) (hs : ∀ a e, M' a = some e → M a = some e) : mWd G A H0 M' H locs :=
  ⟨fun a e ha => h.1 a e (hs a e ha), fun q hq => by
    cases hm : M' q with
    | none => exact absurd hm hq
    | some e => exact h.2.1 q (by rw [hs q e hm]; exact fun w => by cases w), h.2.2⟩
/-- a State lies in the map -/
def sAt (G : mG) (ad : Nat → Nat) (n : Nat) (r : Nat → Int32) (f : Nat → UInt32) (dv : Nat → Int32) (M : mM) : Prop := ∀ i, sL n i → M (ad i) = some (sC G ad n r f dv i)
section SAT
variable {G : mG} {ad : Nat → Nat} {n : Nat} {r : Nat → Int32} {f : Nat → UInt32} {dv : Nat → Int32} {M M0 : mM}
theorem sAt.of (hd : sAd n ad) : sAt G ad n r f dv (sM G ad n r f dv M0) := fun i hi => lay_at hd hi
theorem sAt.eq (hd : sAd n ad) (h : sAt G ad n r f dv M) : sM G ad n r f dv M = M := lay_self hd h
theorem sAt.new {q : Nat} {e : mE} (h : sAt G ad n r f dv M) (hq : M q = none) : sAt G ad n r f dv (mup M q e) := fun i hi => kp_new hq (h i hi)
theorem sAt.put {q : Nat} {e : mE} (h : sAt G ad n r f dv M) (ho : ∀ i, sL n i → ad i ≠ q) : sAt G ad n r f dv (mup M q e) := fun i hi => kp_put (ho i hi) (h i hi)
theorem sAt.out {q : Nat} (h : sAt G ad n r f dv M) (hq : M q = none) : ∀ i, sL n i → ad i ≠ q := fun i hi => kp_ne hq (h i hi)
end SAT
section AST
variable {p : Program} {l : Launch} {e : Env} {R : Room} {s : State} {m : MethodId} {args : Array Value} {below : List Frame} {meth : Method} {c : Code} {H : Heap} {locs : List Loc} {cells slots : Nat} {Q : State → Prop}
variable {cc : ByteArray} {pc : Nat} {ls : Array Slot} {rest st : List Value} {G : mG} {A : Nat → Prop} {M M1 : mM} {nL : Nat} {own : String} {ret0 : Option FieldType}
/-- a made object put into an array of its interface -/
theorem mr_aastL (F : mFx p m c cc nL s args own meth ret0 G A) (hM : mWd G A s.heap M H locs) (t0 : Nat) {cA : ClassId} {a n j v k : Nat} {f : Nat → Option Nat} {x0 : MethodName} {pc0 ix0 : Nat} {σ : Jvm.Lambda.Shape} {vals : List Value} (ha : M a = some (eQ cA n f)) (ht : (mtys G)[t0]? = some (cA, .object σ.iface)) (hq : mSites[k]? = some (x0, pc0, ix0, σ)) (hv : M v = some (.inr (lamC (G.2.1 (20 + k)) vals))) (hk : j < n) (hk2 : j < 2 ^ 31) (hdg : decode cc pc = .ok (.aastore, 1))
    (kk : ∀ (H1 : Heap) (locs1 : List Loc), mWd G A s.heap (mup M a (eQ cA n (va_up f j (some v)))) H1 locs1 → W p l e R s m args below meth c H1 locs1 cells slots Q (F0 m (pc + 1) ls rest)) : W p l e R s m args below meth c H locs cells slots Q (F0 m pc ls (.ref v :: .int (nI j) :: .ref a :: rest)) := by
  obtain ⟨m0, kS, cfS, i0, p0, hm0, hkS, hcfS, hshape, hfind, hmade, hcan⟩ := F.2.2.1.2.2 k _ hq
  obtain ⟨i2, hi2, hasg, -⟩ := State.lambdaCallable_spec hcan
  obtain ⟨dk', kK, ok, tk, file, cf, object, iface, t1, lay, methods, target, found, -, hkK, -⟩ := Jvm.Lambda.isMade_spec hmade
  refine mr_aast0 F.1.1 F.1.2.1 F.2.1 hM t0 ha ht hk hk2 (hM.1 v _ hv) rfl hkK (fun comp h => ?_) hdg kk
  cases hi2.symm.trans h
  exact hasg
theorem mr_newQ (F : mFx p m c cc nL s args own meth ret0 G A) (hM : mWd G A s.heap M H locs) (t0 : Nat) {C : String} {cK : ClassId} {index : Nat} (hcl : Cond.classLink own index C ∈ lw_all) (hover : Cond.arrayOver (.object C) ∈ lw_tbl) (ht : (mtys G)[t0]? = some (cK, .object C)) {N' : Nat} (hN : N' ≤ 100000) (hcells : cells + 1 ≤ R.cells) (hslots : slots + N' ≤ R.slots) (hdg : decode cc pc = .ok (.anewarray index, 3))
    (kk : ∀ (q : Nat) (H1 : Heap), M q = none → mWd G A s.heap (mup M q (eQ cK N' (fun _ => none))) H1 locs →
      W p l e R s m args below meth c H1 locs (cells + 1) (slots + N') Q (F0 m (pc + 3) ls (.ref q :: rest))) : W p l e R s m args below meth c H locs cells slots Q (F0 m pc ls (.int (nI N') :: rest)) :=
  mr_newq F.1.1 F.1.2.1 F.1.2.2.2.2 F.1.2.2.2.1 hcl (F.2.2.1.1 _ hover rfl) F.2.1 hM F.2.2.2.2.1 t0 ht hN hcells hslots hdg (fun q H1 hq _ h1 => kk q H1 hq h1)
end AST
