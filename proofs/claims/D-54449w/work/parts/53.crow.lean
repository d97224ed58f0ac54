/-! ROWS FOR THE SYSTEM'S OBJECTS: fields by class; the parts of a State -/
section CG0
variable {p : Program} {l : Launch} {e : Env} {R : Room} {s : State} {m : MethodId} {args : Array Value} {below : List Frame} {meth : Method} {c : Code} {H : Heap} {locs : List Loc} {cells slots : Nat} {Q : State → Prop}
variable {cc : ByteArray} {pc : Nat} {ls : Array Slot} {rest : List Value} {G : mG} {A : Nat → Prop} {a : Nat} {H0 : Heap} {M M0 : mM} {nL : Nat} {own : String} {ret0 : Option FieldType}
variable {ad : Nat → Nat} {n : Nat} {r : Nat → Int32} {f : Nat → UInt32} {dv : Nat → Int32}
theorem cg0 (F : mFx p m c cc nL s args own meth ret0 G A) (hM : mWd G A s.heap M H locs) {fs : List Value} (he : M a = some (eO 0 fs)) {ref : String} {index : Nat} (k : Nat) (hk : k < 4) (hlink : Cond.fieldLink own index ref (TX1 k).2.1 (TX1 k).2.2.1 ∈ lw_all) (hsame : ∀ x, s.fieldFound? (TX1 k).1 (TX1 k).2.1 (TX1 k).2.2.1 = some x → s.fieldFound? ref (TX1 k).2.1 (TX1 k).2.2.1 = some x) {v : Value} (hv : fs[k]? = some v) (hdg : decode cc pc = .ok (.getfield index, 3))
    (kk : W p l e R s m args below meth c H locs cells slots Q (F0 m (pc + 3) ls (v :: rest))) : W p l e R s m args below meth c H locs cells slots Q (F0 m pc ls (.ref a :: rest)) :=
  mr_get F.1.1 F.1.2.1 F.1.2.2.2.2 in_X1 F.1.2.2.2.1 F.2.1 hM he (ci := 0) rfl k hk hlink hsame hv hdg kk
theorem cp0 (F : mFx p m c cc nL s args own meth ret0 G A) (hM : mWd G A s.heap M H locs) {fs : List Value} (he : M a = some (eO 0 fs)) {ref : String} {index : Nat} (k : Nat) (hk : k < 4) (hlink : Cond.fieldLink own index ref (TX1 k).2.1 (TX1 k).2.2.1 ∈ lw_all) (hsame : ∀ x, s.fieldFound? (TX1 k).1 (TX1 k).2.1 (TX1 k).2.2.1 = some x → s.fieldFound? ref (TX1 k).2.1 (TX1 k).2.2.1 = some x) (hfin : (TX1 k).2.2.2 = false) {v : Value} (hn : narrow (tyX1 k) v = v) (hfit : fits (tyX1 k) v = true) (hl : k < fs.length) (hdg : decode cc pc = .ok (.putfield index, 3))
    (kk : ∀ (H1 : Heap) (locs1 : List Loc), mWd G A s.heap (mup M a (eO 0 (fs.set k v))) H1 locs1 → W p l e R s m args below meth c H1 locs1 cells slots Q (F0 m (pc + 3) ls rest)) : W p l e R s m args below meth c H locs cells slots Q (F0 m pc ls (v :: .ref a :: rest)) :=
  mr_put F.1.1 F.1.2.1 F.1.2.2.2.2 in_X1 tyX1 tyX1_ok nmX1 F.1.2.2.2.1 F.2.1 hM he (ci := 0) rfl k hk hlink hsame hfin hn hfit hl hdg kk
theorem cg1 (F : mFx p m c cc nL s args own meth ret0 G A) (hM : mWd G A s.heap M H locs) {fs : List Value} (he : M a = some (eO 1 fs)) {ref : String} {index : Nat} (k : Nat) (hk : k < 7) (hlink : Cond.fieldLink own index ref (TX2 k).2.1 (TX2 k).2.2.1 ∈ lw_all) (hsame : ∀ x, s.fieldFound? (TX2 k).1 (TX2 k).2.1 (TX2 k).2.2.1 = some x → s.fieldFound? ref (TX2 k).2.1 (TX2 k).2.2.1 = some x) {v : Value} (hv : fs[k]? = some v) (hdg : decode cc pc = .ok (.getfield index, 3))
    (kk : W p l e R s m args below meth c H locs cells slots Q (F0 m (pc + 3) ls (v :: rest))) : W p l e R s m args below meth c H locs cells slots Q (F0 m pc ls (.ref a :: rest)) :=
  mr_get F.1.1 F.1.2.1 F.1.2.2.2.2 in_X2 F.1.2.2.2.1 F.2.1 hM he (ci := 1) rfl k hk hlink hsame hv hdg kk
theorem cp1 (F : mFx p m c cc nL s args own meth ret0 G A) (hM : mWd G A s.heap M H locs) {fs : List Value} (he : M a = some (eO 1 fs)) {ref : String} {index : Nat} (k : Nat) (hk : k < 7) (hlink : Cond.fieldLink own index ref (TX2 k).2.1 (TX2 k).2.2.1 ∈ lw_all) (hsame : ∀ x, s.fieldFound? (TX2 k).1 (TX2 k).2.1 (TX2 k).2.2.1 = some x → s.fieldFound? ref (TX2 k).2.1 (TX2 k).2.2.1 = some x) (hfin : (TX2 k).2.2.2 = false) {v : Value} (hn : narrow (tyX2 k) v = v) (hfit : fits (tyX2 k) v = true) (hl : k < fs.length) (hdg : decode cc pc = .ok (.putfield index, 3))
    (kk : ∀ (H1 : Heap) (locs1 : List Loc), mWd G A s.heap (mup M a (eO 1 (fs.set k v))) H1 locs1 → W p l e R s m args below meth c H1 locs1 cells slots Q (F0 m (pc + 3) ls rest)) : W p l e R s m args below meth c H locs cells slots Q (F0 m pc ls (v :: .ref a :: rest)) :=
  mr_put F.1.1 F.1.2.1 F.1.2.2.2.2 in_X2 tyX2 tyX2_ok nmX2 F.1.2.2.2.1 F.2.1 hM he (ci := 1) rfl k hk hlink hsame hfin hn hfit hl hdg kk
theorem cg2 (F : mFx p m c cc nL s args own meth ret0 G A) (hM : mWd G A s.heap M H locs) {fs : List Value} (he : M a = some (eO 2 fs)) {ref : String} {index : Nat} (k : Nat) (hk : k < 7) (hlink : Cond.fieldLink own index ref (TX3 k).2.1 (TX3 k).2.2.1 ∈ lw_all) (hsame : ∀ x, s.fieldFound? (TX3 k).1 (TX3 k).2.1 (TX3 k).2.2.1 = some x → s.fieldFound? ref (TX3 k).2.1 (TX3 k).2.2.1 = some x) {v : Value} (hv : fs[k]? = some v) (hdg : decode cc pc = .ok (.getfield index, 3))
    (kk : W p l e R s m args below meth c H locs cells slots Q (F0 m (pc + 3) ls (v :: rest))) : W p l e R s m args below meth c H locs cells slots Q (F0 m pc ls (.ref a :: rest)) :=
  mr_get F.1.1 F.1.2.1 F.1.2.2.2.2 in_X3 F.1.2.2.2.1 F.2.1 hM he (ci := 2) rfl k hk hlink hsame hv hdg kk
theorem cp2 (F : mFx p m c cc nL s args own meth ret0 G A) (hM : mWd G A s.heap M H locs) {fs : List Value} (he : M a = some (eO 2 fs)) {ref : String} {index : Nat} (k : Nat) (hk : k < 7) (hlink : Cond.fieldLink own index ref (TX3 k).2.1 (TX3 k).2.2.1 ∈ lw_all) (hsame : ∀ x, s.fieldFound? (TX3 k).1 (TX3 k).2.1 (TX3 k).2.2.1 = some x → s.fieldFound? ref (TX3 k).2.1 (TX3 k).2.2.1 = some x) (hfin : (TX3 k).2.2.2 = false) {v : Value} (hn : narrow (tyX3 k) v = v) (hfit : fits (tyX3 k) v = true) (hl : k < fs.length) (hdg : decode cc pc = .ok (.putfield index, 3))
    (kk : ∀ (H1 : Heap) (locs1 : List Loc), mWd G A s.heap (mup M a (eO 2 (fs.set k v))) H1 locs1 → W p l e R s m args below meth c H1 locs1 cells slots Q (F0 m (pc + 3) ls rest)) : W p l e R s m args below meth c H locs cells slots Q (F0 m pc ls (v :: .ref a :: rest)) :=
  mr_put F.1.1 F.1.2.1 F.1.2.2.2.2 in_X3 tyX3 tyX3_ok nmX3 F.1.2.2.2.1 F.2.1 hM he (ci := 2) rfl k hk hlink hsame hfin hn hfit hl hdg kk
theorem cg3 (F : mFx p m c cc nL s args own meth ret0 G A) (hM : mWd G A s.heap M H locs) {fs : List Value} (he : M a = some (eO 3 fs)) {ref : String} {index : Nat} (k : Nat) (hk : k < 3) (hlink : Cond.fieldLink own index ref (TX5 k).2.1 (TX5 k).2.2.1 ∈ lw_all) (hsame : ∀ x, s.fieldFound? (TX5 k).1 (TX5 k).2.1 (TX5 k).2.2.1 = some x → s.fieldFound? ref (TX5 k).2.1 (TX5 k).2.2.1 = some x) {v : Value} (hv : fs[k]? = some v) (hdg : decode cc pc = .ok (.getfield index, 3))
    (kk : W p l e R s m args below meth c H locs cells slots Q (F0 m (pc + 3) ls (v :: rest))) : W p l e R s m args below meth c H locs cells slots Q (F0 m pc ls (.ref a :: rest)) :=
  mr_get F.1.1 F.1.2.1 F.1.2.2.2.2 in_X5 F.1.2.2.2.1 F.2.1 hM he (ci := 3) rfl k hk hlink hsame hv hdg kk
theorem cp3 (F : mFx p m c cc nL s args own meth ret0 G A) (hM : mWd G A s.heap M H locs) {fs : List Value} (he : M a = some (eO 3 fs)) {ref : String} {index : Nat} (k : Nat) (hk : k < 3) (hlink : Cond.fieldLink own index ref (TX5 k).2.1 (TX5 k).2.2.1 ∈ lw_all) (hsame : ∀ x, s.fieldFound? (TX5 k).1 (TX5 k).2.1 (TX5 k).2.2.1 = some x → s.fieldFound? ref (TX5 k).2.1 (TX5 k).2.2.1 = some x) (hfin : (TX5 k).2.2.2 = false) {v : Value} (hn : narrow (tyX5 k) v = v) (hfit : fits (tyX5 k) v = true) (hl : k < fs.length) (hdg : decode cc pc = .ok (.putfield index, 3))
    (kk : ∀ (H1 : Heap) (locs1 : List Loc), mWd G A s.heap (mup M a (eO 3 (fs.set k v))) H1 locs1 → W p l e R s m args below meth c H1 locs1 cells slots Q (F0 m (pc + 3) ls rest)) : W p l e R s m args below meth c H locs cells slots Q (F0 m pc ls (v :: .ref a :: rest)) :=
  mr_put F.1.1 F.1.2.1 F.1.2.2.2.2 in_X5 tyX5 tyX5_ok nmX5 F.1.2.2.2.1 F.2.1 hM he (ci := 3) rfl k hk hlink hsame hfin hn hfit hl hdg kk
theorem cg4 (F : mFx p m c cc nL s args own meth ret0 G A) (hM : mWd G A s.heap M H locs) {fs : List Value} (he : M a = some (eO 4 fs)) {ref : String} {index : Nat} (k : Nat) (hk : k < 3) (hlink : Cond.fieldLink own index ref (TX6 k).2.1 (TX6 k).2.2.1 ∈ lw_all) (hsame : ∀ x, s.fieldFound? (TX6 k).1 (TX6 k).2.1 (TX6 k).2.2.1 = some x → s.fieldFound? ref (TX6 k).2.1 (TX6 k).2.2.1 = some x) {v : Value} (hv : fs[k]? = some v) (hdg : decode cc pc = .ok (.getfield index, 3))
    (kk : W p l e R s m args below meth c H locs cells slots Q (F0 m (pc + 3) ls (v :: rest))) : W p l e R s m args below meth c H locs cells slots Q (F0 m pc ls (.ref a :: rest)) :=
  mr_get F.1.1 F.1.2.1 F.1.2.2.2.2 in_X6 F.1.2.2.2.1 F.2.1 hM he (ci := 4) rfl k hk hlink hsame hv hdg kk
theorem cp4 (F : mFx p m c cc nL s args own meth ret0 G A) (hM : mWd G A s.heap M H locs) {fs : List Value} (he : M a = some (eO 4 fs)) {ref : String} {index : Nat} (k : Nat) (hk : k < 3) (hlink : Cond.fieldLink own index ref (TX6 k).2.1 (TX6 k).2.2.1 ∈ lw_all) (hsame : ∀ x, s.fieldFound? (TX6 k).1 (TX6 k).2.1 (TX6 k).2.2.1 = some x → s.fieldFound? ref (TX6 k).2.1 (TX6 k).2.2.1 = some x) (hfin : (TX6 k).2.2.2 = false) {v : Value} (hn : narrow (tyX6 k) v = v) (hfit : fits (tyX6 k) v = true) (hl : k < fs.length) (hdg : decode cc pc = .ok (.putfield index, 3))
    (kk : ∀ (H1 : Heap) (locs1 : List Loc), mWd G A s.heap (mup M a (eO 4 (fs.set k v))) H1 locs1 → W p l e R s m args below meth c H1 locs1 cells slots Q (F0 m (pc + 3) ls rest)) : W p l e R s m args below meth c H locs cells slots Q (F0 m pc ls (v :: .ref a :: rest)) :=
  mr_put F.1.1 F.1.2.1 F.1.2.2.2.2 in_X6 tyX6 tyX6_ok nmX6 F.1.2.2.2.1 F.2.1 hM he (ci := 4) rfl k hk hlink hsame hfin hn hfit hl hdg kk
theorem cg6 (F : mFx p m c cc nL s args own meth ret0 G A) (hM : mWd G A s.heap M H locs) {fs : List Value} (he : M a = some (eO 6 fs)) {ref : String} {index : Nat} (k : Nat) (hk : k < 3) (hlink : Cond.fieldLink own index ref (TX8 k).2.1 (TX8 k).2.2.1 ∈ lw_all) (hsame : ∀ x, s.fieldFound? (TX8 k).1 (TX8 k).2.1 (TX8 k).2.2.1 = some x → s.fieldFound? ref (TX8 k).2.1 (TX8 k).2.2.1 = some x) {v : Value} (hv : fs[k]? = some v) (hdg : decode cc pc = .ok (.getfield index, 3))
    (kk : W p l e R s m args below meth c H locs cells slots Q (F0 m (pc + 3) ls (v :: rest))) : W p l e R s m args below meth c H locs cells slots Q (F0 m pc ls (.ref a :: rest)) :=
  mr_get F.1.1 F.1.2.1 F.1.2.2.2.2 in_X8 F.1.2.2.2.1 F.2.1 hM he (ci := 6) rfl k hk hlink hsame hv hdg kk
theorem cp6 (F : mFx p m c cc nL s args own meth ret0 G A) (hM : mWd G A s.heap M H locs) {fs : List Value} (he : M a = some (eO 6 fs)) {ref : String} {index : Nat} (k : Nat) (hk : k < 3) (hlink : Cond.fieldLink own index ref (TX8 k).2.1 (TX8 k).2.2.1 ∈ lw_all) (hsame : ∀ x, s.fieldFound? (TX8 k).1 (TX8 k).2.1 (TX8 k).2.2.1 = some x → s.fieldFound? ref (TX8 k).2.1 (TX8 k).2.2.1 = some x) (hfin : (TX8 k).2.2.2 = false) {v : Value} (hn : narrow (tyX8 k) v = v) (hfit : fits (tyX8 k) v = true) (hl : k < fs.length) (hdg : decode cc pc = .ok (.putfield index, 3))
    (kk : ∀ (H1 : Heap) (locs1 : List Loc), mWd G A s.heap (mup M a (eO 6 (fs.set k v))) H1 locs1 → W p l e R s m args below meth c H1 locs1 cells slots Q (F0 m (pc + 3) ls rest)) : W p l e R s m args below meth c H locs cells slots Q (F0 m pc ls (v :: .ref a :: rest)) :=
  mr_put F.1.1 F.1.2.1 F.1.2.2.2.2 in_X8 tyX8 tyX8_ok nmX8 F.1.2.2.2.1 F.2.1 hM he (ci := 6) rfl k hk hlink hsame hfin hn hfit hl hdg kk
theorem cg7 (F : mFx p m c cc nL s args own meth ret0 G A) (hM : mWd G A s.heap M H locs) {fs : List Value} (he : M a = some (eO 7 fs)) {ref : String} {index : Nat} (k : Nat) (hk : k < 4) (hlink : Cond.fieldLink own index ref (TX9 k).2.1 (TX9 k).2.2.1 ∈ lw_all) (hsame : ∀ x, s.fieldFound? (TX9 k).1 (TX9 k).2.1 (TX9 k).2.2.1 = some x → s.fieldFound? ref (TX9 k).2.1 (TX9 k).2.2.1 = some x) {v : Value} (hv : fs[k]? = some v) (hdg : decode cc pc = .ok (.getfield index, 3))
    (kk : W p l e R s m args below meth c H locs cells slots Q (F0 m (pc + 3) ls (v :: rest))) : W p l e R s m args below meth c H locs cells slots Q (F0 m pc ls (.ref a :: rest)) :=
  mr_get F.1.1 F.1.2.1 F.1.2.2.2.2 in_X9 F.1.2.2.2.1 F.2.1 hM he (ci := 7) rfl k hk hlink hsame hv hdg kk
theorem cp7 (F : mFx p m c cc nL s args own meth ret0 G A) (hM : mWd G A s.heap M H locs) {fs : List Value} (he : M a = some (eO 7 fs)) {ref : String} {index : Nat} (k : Nat) (hk : k < 4) (hlink : Cond.fieldLink own index ref (TX9 k).2.1 (TX9 k).2.2.1 ∈ lw_all) (hsame : ∀ x, s.fieldFound? (TX9 k).1 (TX9 k).2.1 (TX9 k).2.2.1 = some x → s.fieldFound? ref (TX9 k).2.1 (TX9 k).2.2.1 = some x) (hfin : (TX9 k).2.2.2 = false) {v : Value} (hn : narrow (tyX9 k) v = v) (hfit : fits (tyX9 k) v = true) (hl : k < fs.length) (hdg : decode cc pc = .ok (.putfield index, 3))
    (kk : ∀ (H1 : Heap) (locs1 : List Loc), mWd G A s.heap (mup M a (eO 7 (fs.set k v))) H1 locs1 → W p l e R s m args below meth c H1 locs1 cells slots Q (F0 m (pc + 3) ls rest)) : W p l e R s m args below meth c H locs cells slots Q (F0 m pc ls (v :: .ref a :: rest)) :=
  mr_put F.1.1 F.1.2.1 F.1.2.2.2.2 in_X9 tyX9 tyX9_ok nmX9 F.1.2.2.2.1 F.2.1 hM he (ci := 7) rfl k hk hlink hsame hfin hn hfit hl hdg kk
theorem cg8 (F : mFx p m c cc nL s args own meth ret0 G A) (hM : mWd G A s.heap M H locs) {fs : List Value} (he : M a = some (eO 8 fs)) {ref : String} {index : Nat} (k : Nat) (hk : k < 5) (hlink : Cond.fieldLink own index ref (TX10 k).2.1 (TX10 k).2.2.1 ∈ lw_all) (hsame : ∀ x, s.fieldFound? (TX10 k).1 (TX10 k).2.1 (TX10 k).2.2.1 = some x → s.fieldFound? ref (TX10 k).2.1 (TX10 k).2.2.1 = some x) {v : Value} (hv : fs[k]? = some v) (hdg : decode cc pc = .ok (.getfield index, 3))
    (kk : W p l e R s m args below meth c H locs cells slots Q (F0 m (pc + 3) ls (v :: rest))) : W p l e R s m args below meth c H locs cells slots Q (F0 m pc ls (.ref a :: rest)) :=
  mr_get F.1.1 F.1.2.1 F.1.2.2.2.2 in_X10 F.1.2.2.2.1 F.2.1 hM he (ci := 8) rfl k hk hlink hsame hv hdg kk
theorem cp8 (F : mFx p m c cc nL s args own meth ret0 G A) (hM : mWd G A s.heap M H locs) {fs : List Value} (he : M a = some (eO 8 fs)) {ref : String} {index : Nat} (k : Nat) (hk : k < 5) (hlink : Cond.fieldLink own index ref (TX10 k).2.1 (TX10 k).2.2.1 ∈ lw_all) (hsame : ∀ x, s.fieldFound? (TX10 k).1 (TX10 k).2.1 (TX10 k).2.2.1 = some x → s.fieldFound? ref (TX10 k).2.1 (TX10 k).2.2.1 = some x) (hfin : (TX10 k).2.2.2 = false) {v : Value} (hn : narrow (tyX10 k) v = v) (hfit : fits (tyX10 k) v = true) (hl : k < fs.length) (hdg : decode cc pc = .ok (.putfield index, 3))
    (kk : ∀ (H1 : Heap) (locs1 : List Loc), mWd G A s.heap (mup M a (eO 8 (fs.set k v))) H1 locs1 → W p l e R s m args below meth c H1 locs1 cells slots Q (F0 m (pc + 3) ls rest)) : W p l e R s m args below meth c H locs cells slots Q (F0 m pc ls (v :: .ref a :: rest)) :=
  mr_put F.1.1 F.1.2.1 F.1.2.2.2.2 in_X10 tyX10 tyX10_ok nmX10 F.1.2.2.2.1 F.2.1 hM he (ci := 8) rfl k hk hlink hsame hfin hn hfit hl hdg kk
theorem cg9 (F : mFx p m c cc nL s args own meth ret0 G A) (hM : mWd G A s.heap M H locs) {fs : List Value} (he : M a = some (eO 9 fs)) {ref : String} {index : Nat} (k : Nat) (hk : k < 3) (hlink : Cond.fieldLink own index ref (TJ2 k).2.1 (TJ2 k).2.2.1 ∈ lw_all) (hsame : ∀ x, s.fieldFound? (TJ2 k).1 (TJ2 k).2.1 (TJ2 k).2.2.1 = some x → s.fieldFound? ref (TJ2 k).2.1 (TJ2 k).2.2.1 = some x) {v : Value} (hv : fs[k]? = some v) (hdg : decode cc pc = .ok (.getfield index, 3))
    (kk : W p l e R s m args below meth c H locs cells slots Q (F0 m (pc + 3) ls (v :: rest))) : W p l e R s m args below meth c H locs cells slots Q (F0 m pc ls (.ref a :: rest)) :=
  mr_get F.1.1 F.1.2.1 F.1.2.2.2.2 in_J2 F.1.2.2.2.1 F.2.1 hM he (ci := 9) rfl k hk hlink hsame hv hdg kk
theorem cp9 (F : mFx p m c cc nL s args own meth ret0 G A) (hM : mWd G A s.heap M H locs) {fs : List Value} (he : M a = some (eO 9 fs)) {ref : String} {index : Nat} (k : Nat) (hk : k < 3) (hlink : Cond.fieldLink own index ref (TJ2 k).2.1 (TJ2 k).2.2.1 ∈ lw_all) (hsame : ∀ x, s.fieldFound? (TJ2 k).1 (TJ2 k).2.1 (TJ2 k).2.2.1 = some x → s.fieldFound? ref (TJ2 k).2.1 (TJ2 k).2.2.1 = some x) (hfin : (TJ2 k).2.2.2 = false) {v : Value} (hn : narrow (tyJ2 k) v = v) (hfit : fits (tyJ2 k) v = true) (hl : k < fs.length) (hdg : decode cc pc = .ok (.putfield index, 3))
    (kk : ∀ (H1 : Heap) (locs1 : List Loc), mWd G A s.heap (mup M a (eO 9 (fs.set k v))) H1 locs1 → W p l e R s m args below meth c H1 locs1 cells slots Q (F0 m (pc + 3) ls rest)) : W p l e R s m args below meth c H locs cells slots Q (F0 m pc ls (v :: .ref a :: rest)) :=
  mr_put F.1.1 F.1.2.1 F.1.2.2.2.2 in_J2 tyJ2 tyJ2_ok nmJ2 F.1.2.2.2.1 F.2.1 hM he (ci := 9) rfl k hk hlink hsame hfin hn hfit hl hdg kk
theorem cg10 (F : mFx p m c cc nL s args own meth ret0 G A) (hM : mWd G A s.heap M H locs) {fs : List Value} (he : M a = some (eO 10 fs)) {ref : String} {index : Nat} (k : Nat) (hk : k < 3) (hlink : Cond.fieldLink own index ref (TJ8 k).2.1 (TJ8 k).2.2.1 ∈ lw_all) (hsame : ∀ x, s.fieldFound? (TJ8 k).1 (TJ8 k).2.1 (TJ8 k).2.2.1 = some x → s.fieldFound? ref (TJ8 k).2.1 (TJ8 k).2.2.1 = some x) {v : Value} (hv : fs[k]? = some v) (hdg : decode cc pc = .ok (.getfield index, 3))
    (kk : W p l e R s m args below meth c H locs cells slots Q (F0 m (pc + 3) ls (v :: rest))) : W p l e R s m args below meth c H locs cells slots Q (F0 m pc ls (.ref a :: rest)) :=
  mr_get F.1.1 F.1.2.1 F.1.2.2.2.2 in_J8 F.1.2.2.2.1 F.2.1 hM he (ci := 10) rfl k hk hlink hsame hv hdg kk
theorem cp10 (F : mFx p m c cc nL s args own meth ret0 G A) (hM : mWd G A s.heap M H locs) {fs : List Value} (he : M a = some (eO 10 fs)) {ref : String} {index : Nat} (k : Nat) (hk : k < 3) (hlink : Cond.fieldLink own index ref (TJ8 k).2.1 (TJ8 k).2.2.1 ∈ lw_all) (hsame : ∀ x, s.fieldFound? (TJ8 k).1 (TJ8 k).2.1 (TJ8 k).2.2.1 = some x → s.fieldFound? ref (TJ8 k).2.1 (TJ8 k).2.2.1 = some x) (hfin : (TJ8 k).2.2.2 = false) {v : Value} (hn : narrow (tyJ8 k) v = v) (hfit : fits (tyJ8 k) v = true) (hl : k < fs.length) (hdg : decode cc pc = .ok (.putfield index, 3))
    (kk : ∀ (H1 : Heap) (locs1 : List Loc), mWd G A s.heap (mup M a (eO 10 (fs.set k v))) H1 locs1 → W p l e R s m args below meth c H1 locs1 cells slots Q (F0 m (pc + 3) ls rest)) : W p l e R s m args below meth c H locs cells slots Q (F0 m pc ls (v :: .ref a :: rest)) :=
  mr_put F.1.1 F.1.2.1 F.1.2.2.2.2 in_J8 tyJ8 tyJ8_ok nmJ8 F.1.2.2.2.1 F.2.1 hM he (ci := 10) rfl k hk hlink hsame hfin hn hfit hl hdg kk
theorem cg11 (F : mFx p m c cc nL s args own meth ret0 G A) (hM : mWd G A s.heap M H locs) {fs : List Value} (he : M a = some (eO 11 fs)) {ref : String} {index : Nat} (k : Nat) (hk : k < 4) (hlink : Cond.fieldLink own index ref (TJ10 k).2.1 (TJ10 k).2.2.1 ∈ lw_all) (hsame : ∀ x, s.fieldFound? (TJ10 k).1 (TJ10 k).2.1 (TJ10 k).2.2.1 = some x → s.fieldFound? ref (TJ10 k).2.1 (TJ10 k).2.2.1 = some x) {v : Value} (hv : fs[k]? = some v) (hdg : decode cc pc = .ok (.getfield index, 3))
    (kk : W p l e R s m args below meth c H locs cells slots Q (F0 m (pc + 3) ls (v :: rest))) : W p l e R s m args below meth c H locs cells slots Q (F0 m pc ls (.ref a :: rest)) :=
  mr_get F.1.1 F.1.2.1 F.1.2.2.2.2 in_J10 F.1.2.2.2.1 F.2.1 hM he (ci := 11) rfl k hk hlink hsame hv hdg kk
theorem cp11 (F : mFx p m c cc nL s args own meth ret0 G A) (hM : mWd G A s.heap M H locs) {fs : List Value} (he : M a = some (eO 11 fs)) {ref : String} {index : Nat} (k : Nat) (hk : k < 4) (hlink : Cond.fieldLink own index ref (TJ10 k).2.1 (TJ10 k).2.2.1 ∈ lw_all) (hsame : ∀ x, s.fieldFound? (TJ10 k).1 (TJ10 k).2.1 (TJ10 k).2.2.1 = some x → s.fieldFound? ref (TJ10 k).2.1 (TJ10 k).2.2.1 = some x) (hfin : (TJ10 k).2.2.2 = false) {v : Value} (hn : narrow (tyJ10 k) v = v) (hfit : fits (tyJ10 k) v = true) (hl : k < fs.length) (hdg : decode cc pc = .ok (.putfield index, 3))
    (kk : ∀ (H1 : Heap) (locs1 : List Loc), mWd G A s.heap (mup M a (eO 11 (fs.set k v))) H1 locs1 → W p l e R s m args below meth c H1 locs1 cells slots Q (F0 m (pc + 3) ls rest)) : W p l e R s m args below meth c H locs cells slots Q (F0 m pc ls (v :: .ref a :: rest)) :=
  mr_put F.1.1 F.1.2.1 F.1.2.2.2.2 in_J10 tyJ10 tyJ10_ok nmJ10 F.1.2.2.2.1 F.2.1 hM he (ci := 11) rfl k hk hlink hsame hfin hn hfit hl hdg kk
theorem sSa_rf {ad : Nat → Nat} {a n j b : Nat} (h : j < n) (e : a + j = b) : va_rf (sSa ad a n j) = .ref (ad b) := by
  rw [sSa_at h, e]
  rfl
theorem sr_ld1 (F : mFx p m c cc nL s args own meth ret0 G A) (hd : sAd n ad) (hM : mWd G A s.heap (sM G ad n r f dv M0) H locs) {d : Nat} (hk : d < 4) (hdg : decode cc pc = .ok (.aaload, 1))
    (kk : W p l e R s m args below meth c H locs cells slots Q (F0 m (pc + 1) ls (.ref (ad (10 + d)) :: rest))) : W p l e R s m args below meth c H locs cells slots Q (F0 m pc ls (.int (nI d) :: .ref (ad 1) :: rest)) :=
  mr_aald F.1.1 F.1.2.1 F.2.1 hM 6 (sM_1 hd) rfl hk (by omega) (sSa_rf hk rfl) hdg kk
theorem sr_ldA (F : mFx p m c cc nL s args own meth ret0 G A) (hd : sAd n ad) (hM : mWd G A s.heap (sM G ad n r f dv M0) H locs) {d h : Nat} (h1 : d < 4) (hk : h < 3) (hdg : decode cc pc = .ok (.aaload, 1))
    (kk : W p l e R s m args below meth c H locs cells slots Q (F0 m (pc + 1) ls (.ref (ad (40 + (4 * d + h))) :: rest))) : W p l e R s m args below meth c H locs cells slots Q (F0 m pc ls (.int (nI h) :: .ref (ad (20 + d)) :: rest)) :=
  mr_aald F.1.1 F.1.2.1 F.2.1 hM 5 (sM_A hd h1) rfl hk (by omega) (sSa_rf hk (by omega)) hdg kk
theorem sr_ldU (F : mFx p m c cc nL s args own meth ret0 G A) (hd : sAd n ad) (hn : n ≤ 6) (hM : mWd G A s.heap (sM G ad n r f dv M0) H locs) {k h : Nat} (h1 : k < n) (hk : h < 3) (hdg : decode cc pc = .ok (.aaload, 1))
    (kk : W p l e R s m args below meth c H locs cells slots Q (F0 m (pc + 1) ls (.ref (ad (80 + (3 * k + h))) :: rest))) : W p l e R s m args below meth c H locs cells slots Q (F0 m pc ls (.int (nI h) :: .ref (ad (70 + k)) :: rest)) :=
  mr_aald F.1.1 F.1.2.1 F.2.1 hM 7 (sM_U hd hn h1) rfl hk (by omega) (sSa_rf hk (by omega)) hdg kk
theorem sr_ldL (F : mFx p m c cc nL s args own meth ret0 G A) (hd : sAd n ad) (hn : n ≤ 6) (hM : mWd G A s.heap (sM G ad n r f dv M0) H locs) {d j j0 : Nat} (hd4 : d < 4) (hk : j < 6) (h0 : j0 = 64 + 6 * d + j) (hdg : decode cc pc = .ok (.iaload, 1))
    (kk : W p l e R s m args below meth c H locs cells slots Q (F0 m (pc + 1) ls (.int (r j0) :: rest))) : W p l e R s m args below meth c H locs cells slots Q (F0 m pc ls (.int (nI j) :: .ref (ad (30 + d)) :: rest)) := by
  subst h0
  refine mr_iald F.1.1 F.1.2.1 F.2.1 hM (sM_L hd hd4) hk (by omega) hdg ?_
  rw [sSl_at hk]
  exact kk
theorem sr_stL (F : mFx p m c cc nL s args own meth ret0 G A) (hd : sAd n ad) (hn : n ≤ 6) (hM : mWd G A s.heap (sM G ad n r f dv M0) H locs) {d j j0 : Nat} (hd4 : d < 4) (hk : j < 6) (h0 : j0 = 64 + 6 * d + j) {x : Int32} (hdg : decode cc pc = .ok (.iastore, 1))
    (kk : ∀ (H1 : Heap) (locs1 : List Loc), mWd G A s.heap (sM G ad n (va_up r j0 x) f dv M0) H1 locs1 → W p l e R s m args below meth c H1 locs1 cells slots Q (F0 m (pc + 1) ls rest)) : W p l e R s m args below meth c H locs cells slots Q (F0 m pc ls (.int x :: .int (nI j) :: .ref (ad (30 + d)) :: rest)) := by
  refine mr_iast F.1.1 F.1.2.1 F.2.1 hM (sM_L hd hd4) hk (by omega) hdg fun H1 locs1 h1 => kk H1 locs1 ?_
  rw [su_L hd hn hd4 hk h0] at h1
  exact h1
theorem sr_ld4 (F : mFx p m c cc nL s args own meth ret0 G A) (hd : sAd n ad) (hn : n ≤ 6) (hM : mWd G A s.heap (sM G ad n r f dv M0) H locs) { j j0 : Nat} (hk : j < 4) (h0 : j0 = 116 + j) (hdg : decode cc pc = .ok (.iaload, 1))
    (kk : W p l e R s m args below meth c H locs cells slots Q (F0 m (pc + 1) ls (.int (r j0) :: rest))) : W p l e R s m args below meth c H locs cells slots Q (F0 m pc ls (.int (nI j) :: .ref (ad (4)) :: rest)) := by
  subst h0
  refine mr_iald F.1.1 F.1.2.1 F.2.1 hM (sM_4 hd) hk (by omega) hdg ?_
  rw [sSl_at hk]
  exact kk
theorem sr_st4 (F : mFx p m c cc nL s args own meth ret0 G A) (hd : sAd n ad) (hn : n ≤ 6) (hM : mWd G A s.heap (sM G ad n r f dv M0) H locs) { j j0 : Nat} (hk : j < 4) (h0 : j0 = 116 + j) {x : Int32} (hdg : decode cc pc = .ok (.iastore, 1))
    (kk : ∀ (H1 : Heap) (locs1 : List Loc), mWd G A s.heap (sM G ad n (va_up r j0 x) f dv M0) H1 locs1 → W p l e R s m args below meth c H1 locs1 cells slots Q (F0 m (pc + 1) ls rest)) : W p l e R s m args below meth c H locs cells slots Q (F0 m pc ls (.int x :: .int (nI j) :: .ref (ad (4)) :: rest)) := by
  refine mr_iast F.1.1 F.1.2.1 F.2.1 hM (sM_4 hd) hk (by omega) hdg fun H1 locs1 h1 => kk H1 locs1 ?_
  rw [su_4 hd hn hk h0] at h1
  exact h1
theorem sr_ld5 (F : mFx p m c cc nL s args own meth ret0 G A) (hd : sAd n ad) (hn : n ≤ 6) (hM : mWd G A s.heap (sM G ad n r f dv M0) H locs) { j j0 : Nat} (hk : j < 6) (h0 : j0 = 120 + j) (hdg : decode cc pc = .ok (.iaload, 1))
    (kk : W p l e R s m args below meth c H locs cells slots Q (F0 m (pc + 1) ls (.int (r j0) :: rest))) : W p l e R s m args below meth c H locs cells slots Q (F0 m pc ls (.int (nI j) :: .ref (ad (5)) :: rest)) := by
  subst h0
  refine mr_iald F.1.1 F.1.2.1 F.2.1 hM (sM_5 hd) hk (by omega) hdg ?_
  rw [sSl_at hk]
  exact kk
theorem sr_st5 (F : mFx p m c cc nL s args own meth ret0 G A) (hd : sAd n ad) (hn : n ≤ 6) (hM : mWd G A s.heap (sM G ad n r f dv M0) H locs) { j j0 : Nat} (hk : j < 6) (h0 : j0 = 120 + j) {x : Int32} (hdg : decode cc pc = .ok (.iastore, 1))
    (kk : ∀ (H1 : Heap) (locs1 : List Loc), mWd G A s.heap (sM G ad n (va_up r j0 x) f dv M0) H1 locs1 → W p l e R s m args below meth c H1 locs1 cells slots Q (F0 m (pc + 1) ls rest)) : W p l e R s m args below meth c H locs cells slots Q (F0 m pc ls (.int x :: .int (nI j) :: .ref (ad (5)) :: rest)) := by
  refine mr_iast F.1.1 F.1.2.1 F.2.1 hM (sM_5 hd) hk (by omega) hdg fun H1 locs1 h1 => kk H1 locs1 ?_
  rw [su_5 hd hn hk h0] at h1
  exact h1
theorem sr_ldV (F : mFx p m c cc nL s args own meth ret0 G A) (hd : sAd n ad) (hn : n ≤ 6) (hM : mWd G A s.heap (sM G ad n r f dv M0) H locs) {k j j0 : Nat} (hk3 : k < 3 * n) (hk : j < 40) (h0 : j0 = 126 + 40 * k + j) (hdg : decode cc pc = .ok (.iaload, 1))
    (kk : W p l e R s m args below meth c H locs cells slots Q (F0 m (pc + 1) ls (.int (r j0) :: rest))) : W p l e R s m args below meth c H locs cells slots Q (F0 m pc ls (.int (nI j) :: .ref (ad (100 + k)) :: rest)) := by
  subst h0
  refine mr_iald F.1.1 F.1.2.1 F.2.1 hM (sM_V hd hn hk3) hk (by omega) hdg ?_
  rw [sSl_at hk]
  exact kk
theorem sr_stV (F : mFx p m c cc nL s args own meth ret0 G A) (hd : sAd n ad) (hn : n ≤ 6) (hM : mWd G A s.heap (sM G ad n r f dv M0) H locs) {k j j0 : Nat} (hk3 : k < 3 * n) (hk : j < 40) (h0 : j0 = 126 + 40 * k + j) {x : Int32} (hdg : decode cc pc = .ok (.iastore, 1))
    (kk : ∀ (H1 : Heap) (locs1 : List Loc), mWd G A s.heap (sM G ad n (va_up r j0 x) f dv M0) H1 locs1 → W p l e R s m args below meth c H1 locs1 cells slots Q (F0 m (pc + 1) ls rest)) : W p l e R s m args below meth c H locs cells slots Q (F0 m pc ls (.int x :: .int (nI j) :: .ref (ad (100 + k)) :: rest)) := by
  refine mr_iast F.1.1 F.1.2.1 F.2.1 hM (sM_V hd hn hk3) hk (by omega) hdg fun H1 locs1 h1 => kk H1 locs1 ?_
  rw [su_V hd hn hk3 hk h0] at h1
  exact h1
theorem sr_ldO (F : mFx p m c cc nL s args own meth ret0 G A) (hd : sAd n ad) (hn : n ≤ 6) (hM : mWd G A s.heap (sM G ad n r f dv M0) H locs) {k j j0 : Nat} (hk3 : k < 3 * n) (hk : j < 40) (h0 : j0 = 846 + 40 * k + j) (hdg : decode cc pc = .ok (.iaload, 1))
    (kk : W p l e R s m args below meth c H locs cells slots Q (F0 m (pc + 1) ls (.int (r j0) :: rest))) : W p l e R s m args below meth c H locs cells slots Q (F0 m pc ls (.int (nI j) :: .ref (ad (120 + k)) :: rest)) := by
  subst h0
  refine mr_iald F.1.1 F.1.2.1 F.2.1 hM (sM_O hd hn hk3) hk (by omega) hdg ?_
  rw [sSl_at hk]
  exact kk
theorem sr_stO (F : mFx p m c cc nL s args own meth ret0 G A) (hd : sAd n ad) (hn : n ≤ 6) (hM : mWd G A s.heap (sM G ad n r f dv M0) H locs) {k j j0 : Nat} (hk3 : k < 3 * n) (hk : j < 40) (h0 : j0 = 846 + 40 * k + j) {x : Int32} (hdg : decode cc pc = .ok (.iastore, 1))
    (kk : ∀ (H1 : Heap) (locs1 : List Loc), mWd G A s.heap (sM G ad n (va_up r j0 x) f dv M0) H1 locs1 → W p l e R s m args below meth c H1 locs1 cells slots Q (F0 m (pc + 1) ls rest)) : W p l e R s m args below meth c H locs cells slots Q (F0 m pc ls (.int x :: .int (nI j) :: .ref (ad (120 + k)) :: rest)) := by
  refine mr_iast F.1.1 F.1.2.1 F.2.1 hM (sM_O hd hn hk3) hk (by omega) hdg fun H1 locs1 h1 => kk H1 locs1 ?_
  rw [su_O hd hn hk3 hk h0] at h1
  exact h1
theorem sr_ldF (F : mFx p m c cc nL s args own meth ret0 G A) (hd : sAd n ad) (hn : n ≤ 6) (hM : mWd G A s.heap (sM G ad n r f dv M0) H locs) {k j j0 : Nat} (hk3 : k < 3 * n) (hk : j < 40) (h0 : j0 = 40 * k + j) (hdg : decode cc pc = .ok (.faload, 1))
    (kk : W p l e R s m args below meth c H locs cells slots Q (F0 m (pc + 1) ls (.float (f j0) :: rest))) : W p l e R s m args below meth c H locs cells slots Q (F0 m pc ls (.int (nI j) :: .ref (ad (140 + k)) :: rest)) := by
  subst h0
  refine mr_fald F.1.1 F.1.2.1 F.2.1 hM (sM_F hd hk3) hk (by omega) hdg ?_
  rw [sSf_at hk]
  exact kk
theorem sr_stF (F : mFx p m c cc nL s args own meth ret0 G A) (hd : sAd n ad) (hn : n ≤ 6) (hM : mWd G A s.heap (sM G ad n r f dv M0) H locs) {k j j0 : Nat} (hk3 : k < 3 * n) (hk : j < 40) (h0 : j0 = 40 * k + j) {x : UInt32} (hdg : decode cc pc = .ok (.fastore, 1))
    (kk : ∀ (H1 : Heap) (locs1 : List Loc), mWd G A s.heap (sM G ad n r (va_up f j0 x) dv M0) H1 locs1 → W p l e R s m args below meth c H1 locs1 cells slots Q (F0 m (pc + 1) ls rest)) : W p l e R s m args below meth c H locs cells slots Q (F0 m pc ls (.float x :: .int (nI j) :: .ref (ad (140 + k)) :: rest)) := by
  refine mr_fast F.1.1 F.1.2.1 F.2.1 hM (sM_F hd hk3) hk (by omega) hdg fun H1 locs1 h1 => kk H1 locs1 ?_
  rw [su_F hd hn hk3 hk h0] at h1
  exact h1
end CG0
