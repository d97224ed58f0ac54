/-! A STATE'S ARRAYS IN ANY WORLD -/
section XRO
variable {p : Program} {l : Launch} {e : Env} {R : Room} {s : State} {m : MethodId} {args : Array Value} {below : List Frame} {meth : Method} {c : Code} {H : Heap} {locs : List Loc} {cells slots : Nat} {Q : State → Prop}
variable {cc : ByteArray} {pc : Nat} {ls : Array Slot} {rest st : List Value} {G : mG} {A : Nat → Prop} {M M0 : mM} {nL : Nat} {own : String} {ret0 : Option FieldType}
theorem mr_ialdS (F : mFx p m c cc nL s args own meth ret0 G A) (hM : mWd G A s.heap M H locs) {r : Nat → Int32} {a a0 n k j0 : Nat} (ha : M a = some (eI (G.2.1 0) n (sSl r a0 n))) (hk : k < n) (hk2 : k < 2 ^ 31) (hj : a0 + k = j0) (hdg : decode cc pc = .ok (.iaload, 1))
    (kk : W p l e R s m args below meth c H locs cells slots Q (F0 m (pc + 1) ls (.int (r j0) :: rest))) : W p l e R s m args below meth c H locs cells slots Q (F0 m pc ls (.int (nI k) :: .ref a :: rest)) := by
  refine mr_iald F.1.1 F.1.2.1 F.2.1 hM ha hk hk2 hdg ?_
  rw [show sSl r a0 n k = r j0 from (if_pos hk).trans (by rw [hj])]
  exact kk
theorem mr_faldS (F : mFx p m c cc nL s args own meth ret0 G A) (hM : mWd G A s.heap M H locs) {f : Nat → UInt32} {a a0 n k j0 : Nat} (ha : M a = some (eF (G.2.1 1) n (sSf f a0 n))) (hk : k < n) (hk2 : k < 2 ^ 31) (hj : a0 + k = j0) (hdg : decode cc pc = .ok (.faload, 1))
    (kk : W p l e R s m args below meth c H locs cells slots Q (F0 m (pc + 1) ls (.float (f j0) :: rest))) : W p l e R s m args below meth c H locs cells slots Q (F0 m pc ls (.int (nI k) :: .ref a :: rest)) := by
  refine mr_fald F.1.1 F.1.2.1 F.2.1 hM ha hk hk2 hdg ?_
  rw [show sSf f a0 n k = f j0 from (if_pos hk).trans (by rw [hj])]
  exact kk
end XRO
theorem nIn_no {x : Int32} {n : Nat} (hn : n < 2 ^ 31) (h : ¬ inN x n) : x < 0 ∨ nI n ≤ x := by
  by_cases h0 : x < 0
  · exact Or.inl h0
  · refine Or.inr ?_
    obtain ⟨j, hj, rfl⟩ := nI_of h0
    rw [nK_le hn hj]
    exact Nat.not_lt.mp (fun q => h ⟨j, q, rfl⟩)
section XRP
variable {p : Program} {l : Launch} {e : Env} {R : Room} {s : State} {m : MethodId} {args : Array Value} {below : List Frame} {meth : Method} {c : Code} {H : Heap} {locs : List Loc} {cells slots : Nat} {Q : State → Prop}
variable {cc : ByteArray} {pc : Nat} {ls : Array Slot} {rest st : List Value} {G : mG} {A : Nat → Prop} {M M0 : mM} {nL : Nat} {own : String} {ret0 : Option FieldType}
theorem mr_alenI (F : mFx p m c cc nL s args own meth ret0 G A) (hM : mWd G A s.heap M H locs) {a n : Nat} {f : Nat → Int32} (ha : M a = some (eI (G.2.1 0) n f)) (hdg : decode cc pc = .ok (.arraylength, 1))
    (kk : W p l e R s m args below meth c H locs cells slots Q (F0 m (pc + 1) ls (.int (nI n) :: rest))) : W p l e R s m args below meth c H locs cells slots Q (F0 m pc ls (.ref a :: rest)) :=
  mr_alen F.1.1 F.1.2.1 F.2.1 hM 0 ha rfl hdg kk
end XRP
