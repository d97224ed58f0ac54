/-! LAMBDAS: a linked site makes an object -/
theorem lam_three {α : Type} {z : Array Nat} {k3 : Nat → Nat → Nat → Option α} {o : α} (h : Jvm.Lambda.shapeOf?.match_15 (fun _ => Option α) z k3 (fun _ => none) = some o) : ∃ i j k, k3 i j k = some o := by
  obtain ⟨l⟩ := z
  rcases l with _ | ⟨i, _ | ⟨j, _ | ⟨k, _ | ⟨u, l⟩⟩⟩⟩
  · cases h
  · cases h
  · cases h
  · exact ⟨i, j, k, h⟩
  · cases h
theorem lam_site {cf : ClassFile} {index : Nat} {σ : Jvm.Lambda.Shape} (h : Jvm.Lambda.shapeOf? cf index = some σ) : ∃ (b nt : Nat) (desc : String) (site : MethodDescriptor), cf.constantPool[index]? = some (.invokeDynamic b nt) ∧ cf.constantPool.nameAndType? nt = some (σ.name, desc) ∧ parseMethodDescriptor desc = some site ∧ site.parameters = σ.captured := by
  unfold Jvm.Lambda.shapeOf? at h
  split at h
  case h_2 => cases h
  rename_i b nt hc
  obtain ⟨en, -, h⟩ := Option.bind_eq_some_iff.mp h
  obtain ⟨bm, -, h⟩ := Option.bind_eq_some_iff.mp h
  split at h
  case h_2 => cases h
  obtain ⟨_, -, h⟩ := Option.bind_eq_some_iff.mp h
  obtain ⟨i, j, k, h⟩ := lam_three h
  split at h
  case h_2 => cases h
  split at h
  case h_2 => cases h
  split at h
  case h_2 => cases h
  obtain ⟨⟨name, desc⟩, hnt, h⟩ := Option.bind_eq_some_iff.mp h
  obtain ⟨site, hsite, h⟩ := Option.bind_eq_some_iff.mp h
  split at h
  case h_2 => cases h
  obtain ⟨⟨x1, x2, x3, x4⟩, -, h⟩ := Option.bind_eq_some_iff.mp h
  obtain ⟨_, -, h⟩ := Option.bind_eq_some_iff.mp h
  obtain ⟨_, -, h⟩ := Option.bind_eq_some_iff.mp h
  obtain ⟨_, -, h⟩ := Option.bind_eq_some_iff.mp h
  obtain ⟨_, -, h⟩ := Option.bind_eq_some_iff.mp h
  obtain ⟨_, -, h⟩ := Option.bind_eq_some_iff.mp h
  cases h
  exact ⟨b, nt, desc, site, hc, hnt, hsite, rfl⟩
theorem lam_types {s : State} {args : Array Value} {d c : ClassId} {σ : Jvm.Lambda.Shape} {dk : Class} {T : Array FieldType} (h : Jvm.Lambda.isMade { classPath := fun _ => none } s.vm d σ c = true) (hd : s.vm.classes[d]? = some dk) (hO : (Cond.instantiable "java/lang/Object" 0).before args s = true) (hlay : ((σ.file dk.name).bind fun f => Jvm.layoutFields f 0).map (fun x => x.2.1) = some T) : ∃ k : Class, s.vm.classes[c]? = some k ∧ k.instanceTypes = T ∧ k.kind = .ordinary := by
  obtain ⟨dk', k, ok, tk, file, cf, object, iface, t, lay, methods, target, found, h1, h2, -, h4, h5, -, h7, h8, -, -, -, -, -, ⟨-, hkind, -⟩, -, -, -, -, -, -, -, ⟨hty, -⟩, -⟩ := Jvm.Lambda.isMade_spec h
  cases hd.symm.trans h1
  obtain ⟨cO, kO, hfO, hkO, -, -, -, hsz⟩ := Cond.instantiable_spec hO
  cases hfO.symm.trans h5
  cases hkO.symm.trans h7
  have h0 : ok.instanceTypes = #[] := Array.eq_empty_of_size_eq_zero hsz
  rw [hsz] at h8
  rw [h4] at hlay
  simp only [Option.bind_some, h8, Option.map_some, Option.some.injEq] at hlay
  refine ⟨k, h2, ?_, hkind⟩
  rw [hty, h0, hlay]
  simp
