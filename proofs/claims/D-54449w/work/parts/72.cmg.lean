/-! LAMBDAS: small facts -/
theorem bI_01 (P : Prop) : bI P = nI 0 ∨ bI P = nI 1 := by
  by_cases h : P
  · exact Or.inr (bI_t h)
  · exact Or.inl (bI_f h)
theorem lam_len {D : String} {n : Nat} (h : (parseMethodDescriptor D).map (fun d => d.parameters.length) = some n) : ∀ sig, parseMethodDescriptor D = some sig → n = sig.parameters.length := fun sig h2 => by
  rw [h2] at h
  exact (Option.some.inj h).symm
theorem lf1 {t0 : FieldType} {v0 : Value} (h0 : fits t0 v0 = true) : ∀ (i : Nat) (v : Value), [v0][i]? = some v → ∃ t, (#[t0] : Array FieldType)[i]? = some t ∧ fits t v = true := fun i v h => by
  match i, h with
  | 0, h => cases h; exact ⟨t0, rfl, h0⟩
  | i + 1, h => simp at h
theorem lf2 {t0 t1 : FieldType} {v0 v1 : Value} (h0 : fits t0 v0 = true) (h1 : fits t1 v1 = true) : ∀ (i : Nat) (v : Value), [v0, v1][i]? = some v → ∃ t, (#[t0, t1] : Array FieldType)[i]? = some t ∧ fits t v = true := fun i v h => by
  match i, h with
  | 0, h => cases h; exact ⟨t0, rfl, h0⟩
  | 1, h => cases h; exact ⟨t1, rfl, h1⟩
  | i + 2, h => simp at h
theorem lf3 {t0 t1 t2 : FieldType} {v0 v1 v2 : Value} (h0 : fits t0 v0 = true) (h1 : fits t1 v1 = true) (h2 : fits t2 v2 = true) : ∀ (i : Nat) (v : Value), [v0, v1, v2][i]? = some v → ∃ t, (#[t0, t1, t2] : Array FieldType)[i]? = some t ∧ fits t v = true := fun i v h => by
  match i, h with
  | 0, h => cases h; exact ⟨t0, rfl, h0⟩
  | 1, h => cases h; exact ⟨t1, rfl, h1⟩
  | 2, h => cases h; exact ⟨t2, rfl, h2⟩
  | i + 3, h => simp at h
section CMG
variable {p : Program} {l : Launch} {e : Env} {R : Room} {s : State} {m : MethodId} {args : Array Value} {below : List Frame} {meth : Method} {c : Code} {H : Heap} {locs : List Loc} {cells slots : Nat} {Q : State → Prop}
variable {cc : ByteArray} {pc : Nat} {ls : Array Slot} {rest st : List Value} {G : mG} {A : Nat → Prop} {M M1 : mM} {nL : Nat} {own : String} {ret0 : Option FieldType}
theorem mr_alenQ (F : mFx p m c cc nL s args own meth ret0 G A) (hM : mWd G A s.heap M H locs) (t0 : Nat) {cA : ClassId} {a n : Nat} {f : Nat → Option Nat} {ty : FieldType} (ha : M a = some (eQ cA n f)) (ht : (mtys G)[t0]? = some (cA, ty)) (hdg : decode cc pc = .ok (.arraylength, 1))
    (kk : W p l e R s m args below meth c H locs cells slots Q (F0 m (pc + 1) ls (.int (nI n) :: rest))) : W p l e R s m args below meth c H locs cells slots Q (F0 m pc ls (.ref a :: rest)) :=
  mr_alen F.1.1 F.1.2.1 F.2.1 hM t0 ha ht hdg kk
end CMG
