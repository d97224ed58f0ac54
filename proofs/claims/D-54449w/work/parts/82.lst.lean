/-! ROWS FOR THE LIST'S EMPTY ARRAY -/
section LST0
variable {p : Program} {l : Launch} {e : Env} {R : Room} {s : State} {m : MethodId} {args : Array Value} {below : List Frame} {meth : Method} {c : Code} {H : Heap} {locs : List Loc} {cells slots : Nat} {Q : State → Prop}
variable {cc : ByteArray} {pc : Nat} {ls : Array Slot} {rest st : List Value} {G : mG} {A : Nat → Prop} {M M1 : mM} {nL : Nat} {own : String} {ret0 : Option FieldType}
theorem mr_getsE (F : mFx p m c cc nL s args own meth ret0 G A) (hM : mWd G A s.heap M H locs) {index : Nat} (hlink : Cond.fieldLink own index "java/util/ArrayList" "DEFAULTCAPACITY_EMPTY_ELEMENTDATA" "[Ljava/lang/Object;" ∈ lw_all) (hdg : decode cc pc = .ok (.getstatic index, 3))
    (kk : W p l e R s m args below meth c H locs cells slots Q (F0 m (pc + 3) ls (.ref G.2.2 :: rest))) : W p l e R s m args below meth c H locs cells slots Q (F0 m pc ls rest) :=
  va_gets F.1.1 F.1.2.1 F.2.2.2.1.2.2.1 hM.2.2 F.1.2.2.2.1 (F.1.2.2.2.2 _ hlink) (fun x h => h) hdg kk
theorem mr_alenE (F : mFx p m c cc nL s args own meth ret0 G A) (hM : mWd G A s.heap M H locs) (hdg : decode cc pc = .ok (.arraylength, 1))
    (kk : W p l e R s m args below meth c H locs cells slots Q (F0 m (pc + 1) ls (.int (nI 0) :: rest))) : W p l e R s m args below meth c H locs cells slots Q (F0 m pc ls (.ref G.2.2 :: rest)) :=
  va_tlen F.1.1 F.1.2.1 F.2.2.2.1.2.2.2.1 hM.2.2 rfl hdg kk
end LST0
