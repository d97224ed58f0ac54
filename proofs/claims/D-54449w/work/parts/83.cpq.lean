/-! THE LIST: made, growing -/
set_option maxHeartbeats 4000000 in
theorem cs_J0_init (l : Launch) {G : mG} {M0 : mM} {q : Nat} : mMet l yJ0_init (ws_ yJ0_init cJ0_init 1 none) (mRm 2 0 0) [.ref q] G (pPre (M0)) (pPost (M0) (none)) := by
  refine mMet.of (by decide +kernel) (Nat.le_of_ble_eq_true rfl) fun p e s m args below meth c A Q M hM0 F hnm hQ hM ls hl => ?_
  have hM0 : M0 = M := hM0.symm
  subst hM0
  have hl : lv_has ls 1 [(0, .ref q)] := hl
  refine lv_aload_n F.1.1 F.1.2.1 dJ0_init_0 rfl (lv_at hl 0 rfl) ?_
  refine mr_obj F q134 hl.1 (Nat.le_of_ble_eq_true rfl) (Nat.le_of_ble_eq_true rfl) dJ0_init_1 ?_
  exact mr_vret F hQ hM ⟨rfl, rfl⟩ (Nat.le_of_ble_eq_true rfl) (Nat.le_of_ble_eq_true rfl) dJ0_init_4
set_option maxHeartbeats 4000000 in
theorem cs_J1_init (l : Launch) {G : mG} {M0 : mM} {q : Nat} (h_q : M0 q = some (eO 9 [.int 0, .null, .int 0])) : mMet l yJ1_init (ws_ yJ1_init cJ1_init 1 none) (mRm 3 0 0) [.ref q] G (pPre M0) (fun _ ρ M1 => ρ = none ∧ NewB M0 q M1 ∧ M1 q = some (eO 9 [.int 0, .null, .int 0])) := by
  refine mMet.of (by decide +kernel) (Nat.le_of_ble_eq_true rfl) fun p e s m args below meth c A Q M hM0 F hnm hQ hM ls hl => ?_
  have hM0 : M0 = M := hM0.symm
  subst hM0
  have hl : lv_has ls 1 [(0, .ref q)] := hl
  have hN : NewB M0 q M0 := fun a x h _ => h
  have hb0 := h_q
  refine lv_aload_n F.1.1 F.1.2.1 dJ1_init_0 rfl (lv_at hl 0 rfl) ?_
  refine mc_Iv (As := []) F hM (cs_J0_init l ) (cwI 0 F.1.2.2.2.2 (lw_meth q133) rfl rfl rfl (F.1.2.2.2.2 _ q72) (F.1.2.2.2.2 _ q131) (F.1.2.2.2.2 _ q132) rfl (by decide +kernel) (mRm_ok (by decide) (by decide))) rfl rfl hl.1 rfl (Nat.le_of_ble_eq_true rfl) dJ1_init_1 ⟨Nat.le_of_ble_eq_true rfl, Nat.le_of_ble_eq_true rfl⟩ (fun H locs hM => ?_)
  refine lv_aload_n F.1.1 F.1.2.1 dJ1_init_4 rfl (lv_at hl 0 rfl) ?_
  refine mr_iconst F 0 dJ1_init_5 (by decide +kernel) ?_
  refine cp9 F hM h_q 0 (by decide) q139 (fun x h => h) rfl rfl rfl (Nat.le_of_ble_eq_true rfl) dJ1_init_6 (fun H locs hM => ?_)
  have hN := nw_NB hM hN
  have h_q := nw_self hM
  have hb0 := h_q
  exact mr_vret F hQ hM ⟨rfl, hN, h_q⟩ (Nat.le_of_ble_eq_true rfl) (Nat.le_of_ble_eq_true rfl) dJ1_init_9
set_option maxHeartbeats 4000000 in
theorem cs_J2_init (l : Launch) {G : mG} {M0 : mM} {q : Nat} (h_q : M0 q = some (eO 9 [.int 0, .null, .int 0])) : mMet l yJ2_init (ws_ yJ2_init cJ2_init 1 none) (mRm 4 0 0) [.ref q] G (pPre M0) (fun _ ρ M1 => ρ = none ∧ NewB M0 q M1 ∧ M1 q = some (eO 9 [.int 0, .ref G.2.2, .int 0])) := by
  refine mMet.of (by decide +kernel) (Nat.le_of_ble_eq_true rfl) fun p e s m args below meth c A Q M hM0 F hnm hQ hM ls hl => ?_
  have hM0 : M0 = M := hM0.symm
  subst hM0
  have hl : lv_has ls 1 [(0, .ref q)] := hl
  have hN : NewB M0 q M0 := fun a x h _ => h
  have hb0 := h_q
  refine lv_aload_n F.1.1 F.1.2.1 dJ2_init_0 rfl (lv_at hl 0 rfl) ?_
  refine mc_I (As := []) F hM (cs_J1_init l h_q) (cwI 0 F.1.2.2.2.2 (lw_meth q130) rfl rfl rfl (F.1.2.2.2.2 _ q73) (F.1.2.2.2.2 _ q128) (F.1.2.2.2.2 _ q129) rfl (by decide +kernel) (mRm_ok (by decide) (by decide))) rfl rfl hl.1 rfl (Nat.le_of_ble_eq_true rfl) dJ2_init_1 ⟨Nat.le_of_ble_eq_true rfl, Nat.le_of_ble_eq_true rfl⟩ (fun ρ1 M1 H locs hP1 hM hz1 => ?_)
  obtain ⟨rfl, hN, h_q⟩ := hP1
  have hb0 := h_q
  refine lv_aload_n F.1.1 F.1.2.1 dJ2_init_4 rfl (lv_at hl 0 rfl) ?_
  refine mr_getsE F hM q135 dJ2_init_5 ?_
  refine cp9 F hM h_q 1 (by decide) q137 (fun x h => h) rfl rfl rfl (Nat.le_of_ble_eq_true rfl) dJ2_init_8 (fun H locs hM => ?_)
  have hN := nw_NB hM hN
  have h_q := nw_self hM
  have hb0 := h_q
  exact mr_vret F hQ hM ⟨rfl, hN, h_q⟩ (Nat.le_of_ble_eq_true rfl) (Nat.le_of_ble_eq_true rfl) dJ2_init_11
set_option maxHeartbeats 4000000 in
theorem cs_J18_max (l : Launch) {G : mG} {M0 : mM} {a b : Nat} (h : b ≤ a) (ha : a < 2 ^ 31) : mMet l yJ18_max (ws_ yJ18_max cJ18_max 2 (some .int)) (mRm 1 0 0) [.int (nI a), .int (nI b)] G (pPre (M0)) (pPost (M0) (some (.int (nI a)))) := by
  refine mMet.of (by decide +kernel) (Nat.le_of_ble_eq_true rfl) fun p e s m args below meth c A Q M hM0 F hnm hQ hM ls hl => ?_
  have hM0 : M0 = M := hM0.symm
  subst hM0
  have hl : lv_has ls 2 [(0, .int (nI a)), (1, .int (nI b))] := hl
  refine lv_iload_n F.1.1 F.1.2.1 dJ18_max_0 rfl (lv_at hl 0 rfl) ?_
  refine lv_iload_n F.1.1 F.1.2.1 dJ18_max_1 rfl (lv_at hl 1 rfl) ?_
  refine mr_icmp_ltN F (tgt := 9) dJ18_max_2 (by decide) (by omega) (by omega) (fun c2 => ?_) (fun c2 => ?_)
  · exact absurd c2 (by omega)
  · refine lv_iload_n F.1.1 F.1.2.1 dJ18_max_5 rfl (lv_at hl 0 rfl) ?_
    refine lv_goto (tgt := 10) F.1.1 F.1.2.1 dJ18_max_6 (by decide) ?_
    exact mr_iret F hQ hM ⟨rfl, rfl⟩ (Nat.le_of_ble_eq_true rfl) (Nat.le_of_ble_eq_true rfl) dJ18_max_10
set_option maxHeartbeats 4000000 in
theorem cs_J2_grow_2 (l : Launch) {G : mG} {M0 : mM} {q : Nat} {z : Int32} (h_q : M0 q = some (eO 9 [.int z, .ref G.2.2, .int (nI 0)])) : mMet l yJ2_grow_2 (ws_ yJ2_grow_2 cJ2_grow_2 4 (some (.array (.object "java/lang/Object")))) (mRm 4 1 10) [.ref q, .int (nI 1)] G (pPre M0) (fun _ ρ M1 => ∃ u, ρ = some (.ref u) ∧ M0 u = none ∧ M1 = mup (mup M0 u (eQ (G.2.1 4) 10 (fun _ => none))) q (eO 9 [.int z, .ref u, .int (nI 0)])) := by
  refine mMet.of (by decide +kernel) (Nat.le_of_ble_eq_true rfl) fun p e s m args below meth c A Q M hM0 F hnm hQ hM ls hl => ?_
  have hM0 : M0 = M := hM0.symm
  subst hM0
  have hl : lv_has ls 4 [(0, .ref q), (1, .int (nI 1))] := hl
  have hN : NewB M0 q M0 := fun a x h _ => h
  have hb0 := h_q
  refine lv_aload_n F.1.1 F.1.2.1 dJ2_grow_2_0 rfl (lv_at hl 0 rfl) ?_
  refine cg9 F hM h_q 1 (by decide) q137 (fun x h => h) rfl dJ2_grow_2_1 ?_
  refine mr_alenE F hM dJ2_grow_2_4 ?_
  refine lv_istore_n (lv' := [(2, _), (0, _), (1, _)]) F.1.1 F.1.2.1 dJ2_grow_2_5 rfl hl (by decide) rfl (fun ls hl => ?_)
  refine lv_iload_n F.1.1 F.1.2.1 dJ2_grow_2_6 rfl (lv_at hl 0 rfl) ?_
  refine mr_ifgtN F (tgt := 20) dJ2_grow_2_7 (by decide) (by omega) (fun c7 => ?_) (fun c7 => ?_)
  · exact absurd c7 (by decide)
  · refine lv_aload_n F.1.1 F.1.2.1 dJ2_grow_2_10 rfl (lv_at hl 1 rfl) ?_
    refine cg9 F hM h_q 1 (by decide) q137 (fun x h => h) rfl dJ2_grow_2_11 ?_
    refine mr_getsE F hM q135 dJ2_grow_2_14 ?_
    refine lv_acmp_eq (rx := some G.2.2) (ry := some G.2.2) (tgt := 45) F.1.1 F.1.2.1 dJ2_grow_2_17 (by decide) (fun c17 => ?_) (fun c17 => ?_)
    · refine lv_aload_n F.1.1 F.1.2.1 dJ2_grow_2_45 rfl (lv_at hl 1 rfl) ?_
      refine mr_bipush F 10 dJ2_grow_2_46 (by decide +kernel) ?_
      refine lv_iload_n F.1.1 F.1.2.1 dJ2_grow_2_48 rfl (lv_at hl 2 rfl) ?_
      refine mc_Sa (As := [_, _]) F hM (cs_J18_max l (by omega) (by omega)) (va_cwS 2 F.1.2.2.2.2 (lw_S q1194 q485 q97 q486) rfl rfl rfl (by decide +kernel) (mRm_ok (by decide) (by decide))) rfl rfl hl.1 rfl (Nat.le_of_ble_eq_true rfl) dJ2_grow_2_49 ⟨Nat.le_of_ble_eq_true rfl, Nat.le_of_ble_eq_true rfl⟩ (fun H locs hM => ?_)
      refine mr_newQ F hM 4 q1195 q342 rfl (Nat.le_of_ble_eq_true rfl) (Nat.le_of_ble_eq_true rfl) (Nat.le_of_ble_eq_true rfl) dJ2_grow_2_52 (fun u H hq_u hM => ?_)
      have n_q_u := kp_ne hq_u h_q
      have h_q := nw_new hM hq_u h_q
      have w_u := nw_F hq_u hN
      have z_u := hN.none hb0 hq_u
      have hb0 := nw_new hM hq_u hb0
      have hN := nw_N hM hq_u hN
      have h_u := nw_self hM
      refine lv_dup_x1 F.1.1 F.1.2.1 dJ2_grow_2_55 rfl rfl ?_
      refine cp9 F hM h_q 1 (by decide) q137 (fun x h => h) rfl rfl rfl (Nat.le_of_ble_eq_true rfl) dJ2_grow_2_56 (fun H locs hM => ?_)
      have h_u := nw_put hM (Ne.symm n_q_u) h_u
      have hN := nw_NB hM hN
      have h_q := nw_self hM
      have hb0 := h_q
      exact mr_aret F hQ (by first | exact Or.inl ⟨_, rfl⟩ | exact Or.inr ⟨_, rfl⟩) hM ⟨u, rfl, hq_u, rfl⟩ (Nat.le_of_ble_eq_true rfl) (Nat.le_of_ble_eq_true rfl) dJ2_grow_2_59
    · exact absurd rfl c17
set_option maxHeartbeats 4000000 in
theorem cs_J2_grow (l : Launch) {G : mG} {M0 : mM} {q : Nat} {z : Int32} (h_q : M0 q = some (eO 9 [.int z, .ref G.2.2, .int (nI 0)])) : mMet l yJ2_grow (ws_ yJ2_grow cJ2_grow 1 (some (.array (.object "java/lang/Object")))) (mRm 5 1 10) [.ref q] G (pPre M0) (fun _ ρ M1 => ∃ u, ρ = some (.ref u) ∧ M0 u = none ∧ M1 = mup (mup M0 u (eQ (G.2.1 4) 10 (fun _ => none))) q (eO 9 [.int z, .ref u, .int (nI 0)])) := by
  refine mMet.of (by decide +kernel) (Nat.le_of_ble_eq_true rfl) fun p e s m args below meth c A Q M hM0 F hnm hQ hM ls hl => ?_
  have hM0 : M0 = M := hM0.symm
  subst hM0
  have hl : lv_has ls 1 [(0, .ref q)] := hl
  have hN : NewB M0 q M0 := fun a x h _ => h
  have hb0 := h_q
  refine lv_aload_n F.1.1 F.1.2.1 dJ2_grow_0 rfl (lv_at hl 0 rfl) ?_
  refine lv_aload_n F.1.1 F.1.2.1 dJ2_grow_1 rfl (lv_at hl 0 rfl) ?_
  refine cg9 F hM h_q 2 (by decide) q138 (fun x h => h) rfl dJ2_grow_2 ?_
  refine mr_iconst F 1 dJ2_grow_5 (by decide +kernel) ?_
  refine mr_iaddN F dJ2_grow_6 ?_
  refine mc_V (As := [_]) F hM (cs_J2_grow_2 l h_q) (cwV 1 F.1.2.2.2.2 (lw_V q1158 q1160 qs21 q74 q1161) rfl rfl rfl (by decide +kernel) (mRm_ok (by decide) (by decide))) rfl h_q rfl rfl rfl hl.1 rfl (Nat.le_of_ble_eq_true rfl) dJ2_grow_7 ⟨Nat.le_of_ble_eq_true rfl, Nat.le_of_ble_eq_true rfl⟩ (fun ρ7 M7 H locs hP7 hM hz7 => ?_)
  obtain ⟨u, rfl, hq_u, rfl⟩ := hP7
  exact mr_aret F hQ (by first | exact Or.inl ⟨_, rfl⟩ | exact Or.inr ⟨_, rfl⟩) hM ⟨u, rfl, hq_u, rfl⟩ (Nat.le_of_ble_eq_true rfl) (Nat.le_of_ble_eq_true rfl) dJ2_grow_10
