/-! THE LIST: adding -/
set_option maxHeartbeats 4000000 in
theorem cs_J2_add_2_0 (l : Launch) {G : mG} {M0 : mM} {q v : Nat} {z : Int32} {fsv : List Value} (h_q : M0 q = some (eO 9 [.int z, .ref G.2.2, .int (nI 0)])) (h_v : M0 v = some (eO 6 fsv)) (n_q_v : q ≠ v) : mMet l yJ2_add_2 (ws_ yJ2_add_2 cJ2_add_2 4 none) (mRm 6 1 10) [.ref q, .ref v, .ref G.2.2, .int (nI 0)] G (pPre M0) (fun _ ρ M1 => ρ = none ∧ ∃ u, M0 u = none ∧ M1 = mup (mup M0 u (eQ (G.2.1 4) 10 (va_up (fun _ => none) 0 (some v)))) q (eO 9 [.int z, .ref u, .int (nI 1)])) := by
  refine mMet.of (by decide +kernel) (Nat.le_of_ble_eq_true rfl) fun p e s m args below meth c A Q M hM0 F hnm hQ hM ls hl => ?_
  have hM0 : M0 = M := hM0.symm
  subst hM0
  have hl : lv_has ls 4 [(0, .ref q), (1, .ref v), (2, .ref G.2.2), (3, .int (nI 0))] := hl
  have hN : NewB M0 q M0 := fun a x h _ => h
  have hb0 := h_q
  refine lv_iload_n F.1.1 F.1.2.1 dJ2_add_2_0 rfl (lv_at hl 3 rfl) ?_
  refine lv_aload_n F.1.1 F.1.2.1 dJ2_add_2_1 rfl (lv_at hl 2 rfl) ?_
  refine mr_alenE F hM dJ2_add_2_2 ?_
  refine mr_icmp_neN F (tgt := 11) dJ2_add_2_3 (by decide) (by omega) (by omega) (fun c3 => ?_) (fun c3 => ?_)
  · exact absurd rfl c3
  · refine lv_aload_n F.1.1 F.1.2.1 dJ2_add_2_6 rfl (lv_at hl 0 rfl) ?_
    refine mc_V (As := []) F hM (cs_J2_grow l h_q) (cwV 0 F.1.2.2.2.2 (lw_V q1154 q1156 qs20 q74 q1157) rfl rfl rfl (by decide +kernel) (mRm_ok (by decide) (by decide))) rfl h_q rfl rfl rfl hl.1 rfl (Nat.le_of_ble_eq_true rfl) dJ2_add_2_7 ⟨Nat.le_of_ble_eq_true rfl, Nat.le_of_ble_eq_true rfl⟩ (fun ρ7 M7 H locs hP7 hM hz7 => ?_)
    obtain ⟨u, rfl, hq_u, rfl⟩ := hP7
    have n_q_u := kp_ne hq_u h_q
    have n_v_u := kp_ne hq_u h_v
    have h_v := kp_put (e := eO 9 [.int z, .ref u, .int (nI 0)]) (Ne.symm n_q_v) (kp_new (e := eQ (G.2.1 4) 10 (fun _ => none)) hq_u h_v)
    have h_u := kp_put (e := eO 9 [.int z, .ref u, .int (nI 0)]) (Ne.symm n_q_u) (mup_self M0 u (eQ (G.2.1 4) 10 (fun _ => none)))
    have h_q := nw_self hM
    refine lv_astore_n (lv' := [(2, _), (0, _), (1, _), (3, _)]) F.1.1 F.1.2.1 dJ2_add_2_10 rfl hl (by decide) rfl (fun ls hl => ?_)
    refine lv_aload_n F.1.1 F.1.2.1 dJ2_add_2_11 rfl (lv_at hl 0 rfl) ?_
    refine lv_iload_n F.1.1 F.1.2.1 dJ2_add_2_12 rfl (lv_at hl 3 rfl) ?_
    refine lv_aload_n F.1.1 F.1.2.1 dJ2_add_2_13 rfl (lv_at hl 2 rfl) ?_
    refine mr_aastO F.1.1 F.1.2.1 F.2.1 hM 4 6 h_u rfl (F.2.2.1.1 _ q2182 rfl) h_v rfl (by omega) (by omega) dJ2_add_2_14 (fun H locs hM => ?_)
    have h_q := nw_put hM n_q_u h_q
    have h_v := nw_put hM n_v_u h_v
    have h_u := nw_self hM
    refine lv_aload_n F.1.1 F.1.2.1 dJ2_add_2_15 rfl (lv_at hl 1 rfl) ?_
    refine lv_iload_n F.1.1 F.1.2.1 dJ2_add_2_16 rfl (lv_at hl 3 rfl) ?_
    refine mr_iconst F 1 dJ2_add_2_17 (by decide +kernel) ?_
    refine mr_iaddN F dJ2_add_2_18 ?_
    refine cp9 F hM h_q 2 (by decide) q138 (fun x h => h) rfl rfl rfl (Nat.le_of_ble_eq_true rfl) dJ2_add_2_19 (fun H locs hM => ?_)
    have h_v := nw_put hM (Ne.symm n_q_v) h_v
    have h_u := nw_put hM (Ne.symm n_q_u) h_u
    have h_q := nw_self hM
    exact mr_vret F hQ hM ⟨rfl, u, hq_u, mup_4 (Ne.symm n_q_u)⟩ (Nat.le_of_ble_eq_true rfl) (Nat.le_of_ble_eq_true rfl) dJ2_add_2_22
set_option maxHeartbeats 4000000 in
theorem cs_J2_add_2_n (l : Launch) {G : mG} {M0 : mM} {q v eb n : Nat} {z : Int32} {fsv : List Value} {fn : Nat → Option Nat} (h_q : M0 q = some (eO 9 [.int z, .ref eb, .int (nI n)])) (h_v : M0 v = some (eO 6 fsv)) (n_q_v : q ≠ v) (h_eb : M0 eb = some (eQ (G.2.1 4) 10 fn)) (n_q_eb : q ≠ eb) (n_v_eb : v ≠ eb) (hn : n < 10) : mMet l yJ2_add_2 (ws_ yJ2_add_2 cJ2_add_2 4 none) (mRm 6 1 10) [.ref q, .ref v, .ref eb, .int (nI n)] G (pPre M0) (pPost (mup (mup M0 eb (eQ (G.2.1 4) 10 (va_up fn n (some v)))) q (eO 9 [.int z, .ref eb, .int (nI (n + 1))])) none) := by
  refine mMet.of (by decide +kernel) (Nat.le_of_ble_eq_true rfl) fun p e s m args below meth c A Q M hM0 F hnm hQ hM ls hl => ?_
  have hM0 : M0 = M := hM0.symm
  subst hM0
  have hl : lv_has ls 4 [(0, .ref q), (1, .ref v), (2, .ref eb), (3, .int (nI n))] := hl
  refine lv_iload_n F.1.1 F.1.2.1 dJ2_add_2_0 rfl (lv_at hl 3 rfl) ?_
  refine lv_aload_n F.1.1 F.1.2.1 dJ2_add_2_1 rfl (lv_at hl 2 rfl) ?_
  refine mr_alenQ F hM 4 h_eb rfl dJ2_add_2_2 ?_
  refine mr_icmp_neN F (tgt := 11) dJ2_add_2_3 (by decide) (by omega) (by omega) (fun c3 => ?_) (fun c3 => ?_)
  · refine lv_aload_n F.1.1 F.1.2.1 dJ2_add_2_11 rfl (lv_at hl 2 rfl) ?_
    refine lv_iload_n F.1.1 F.1.2.1 dJ2_add_2_12 rfl (lv_at hl 3 rfl) ?_
    refine lv_aload_n F.1.1 F.1.2.1 dJ2_add_2_13 rfl (lv_at hl 1 rfl) ?_
    refine mr_aastO F.1.1 F.1.2.1 F.2.1 hM 4 6 h_eb rfl (F.2.2.1.1 _ q2182 rfl) h_v rfl (by omega) (by omega) dJ2_add_2_14 (fun H locs hM => ?_)
    have h_q := nw_put hM n_q_eb h_q
    have h_v := nw_put hM n_v_eb h_v
    have h_eb := nw_self hM
    refine lv_aload_n F.1.1 F.1.2.1 dJ2_add_2_15 rfl (lv_at hl 0 rfl) ?_
    refine lv_iload_n F.1.1 F.1.2.1 dJ2_add_2_16 rfl (lv_at hl 3 rfl) ?_
    refine mr_iconst F 1 dJ2_add_2_17 (by decide +kernel) ?_
    refine mr_iaddN F dJ2_add_2_18 ?_
    refine cp9 F hM h_q 2 (by decide) q138 (fun x h => h) rfl rfl rfl (Nat.le_of_ble_eq_true rfl) dJ2_add_2_19 (fun H locs hM => ?_)
    have h_v := nw_put hM (Ne.symm n_q_v) h_v
    have h_eb := nw_put hM (Ne.symm n_q_eb) h_eb
    have h_q := nw_self hM
    exact mr_vret F hQ hM ⟨rfl, rfl⟩ (Nat.le_of_ble_eq_true rfl) (Nat.le_of_ble_eq_true rfl) dJ2_add_2_22
  · exact absurd c3 (by omega)
set_option maxHeartbeats 4000000 in
theorem cs_J2_add_0 (l : Launch) {G : mG} {M0 : mM} {q v : Nat} {z : Int32} {fsv : List Value} (h_q : M0 q = some (eO 9 [.int z, .ref G.2.2, .int (nI 0)])) (h_v : M0 v = some (eO 6 fsv)) (n_q_v : q ≠ v) : mMet l yJ2_add (ws_ yJ2_add cJ2_add 2 (some .boolean)) (mRm 7 1 10) [.ref q, .ref v] G (pPre M0) (fun _ ρ M1 => ∃ u, ρ = some (.int 1) ∧ M0 u = none ∧ M1 = mup (mup M0 u (eQ (G.2.1 4) 10 (va_up (fun _ => none) 0 (some v)))) q (eO 9 [.int (z + nI 1), .ref u, .int (nI 1)])) := by
  refine mMet.of (by decide +kernel) (Nat.le_of_ble_eq_true rfl) fun p e s m args below meth c A Q M hM0 F hnm hQ hM ls hl => ?_
  have hM0 : M0 = M := hM0.symm
  subst hM0
  have hl : lv_has ls 2 [(0, .ref q), (1, .ref v)] := hl
  refine lv_aload_n F.1.1 F.1.2.1 dJ2_add_0 rfl (lv_at hl 0 rfl) ?_
  refine lv_dup F.1.1 F.1.2.1 dJ2_add_1 rfl ?_
  refine cg9 F hM h_q 0 (by decide) q140 (u_same (F.1.2.2.2.2 _ q141)) rfl dJ2_add_2 ?_
  refine mr_iconst F 1 dJ2_add_5 (by decide +kernel) ?_
  refine lv_iadd F.1.1 F.1.2.1 dJ2_add_6 ?_
  refine cp9 F hM h_q 0 (by decide) q140 (u_same (F.1.2.2.2.2 _ q141)) rfl rfl rfl (Nat.le_of_ble_eq_true rfl) dJ2_add_7 (fun H locs hM => ?_)
  have h_v := nw_put hM (Ne.symm n_q_v) h_v
  have h_q := nw_self hM
  refine lv_aload_n F.1.1 F.1.2.1 dJ2_add_10 rfl (lv_at hl 0 rfl) ?_
  refine lv_aload_n F.1.1 F.1.2.1 dJ2_add_11 rfl (lv_at hl 1 rfl) ?_
  refine lv_aload_n F.1.1 F.1.2.1 dJ2_add_12 rfl (lv_at hl 0 rfl) ?_
  refine cg9 F hM h_q 1 (by decide) q137 (fun x h => h) rfl dJ2_add_13 ?_
  refine lv_aload_n F.1.1 F.1.2.1 dJ2_add_16 rfl (lv_at hl 0 rfl) ?_
  refine cg9 F hM h_q 2 (by decide) q138 (fun x h => h) rfl dJ2_add_17 ?_
  refine mc_V (As := [_, _, _]) F hM (cs_J2_add_2_0 l h_q h_v n_q_v) (cwV 3 F.1.2.2.2.2 (lw_V q1150 q1152 qs19 q74 q1153) rfl rfl rfl (by decide +kernel) (mRm_ok (by decide) (by decide))) rfl h_q rfl rfl rfl hl.1 rfl (Nat.le_of_ble_eq_true rfl) dJ2_add_20 ⟨Nat.le_of_ble_eq_true rfl, Nat.le_of_ble_eq_true rfl⟩ (fun ρ20 M20 H locs hP20 hM hz20 => ?_)
  obtain ⟨rfl, u, hq_u, rfl⟩ := hP20
  have n_q_u := kp_ne hq_u h_q
  refine mr_iconst F 1 dJ2_add_23 (by decide +kernel) ?_
  exact mr_zret F hQ (by first | rfl | exact nZ_bI _) hM ⟨u, rfl, mup_none hq_u, mup_3 (Ne.symm n_q_u)⟩ (Nat.le_of_ble_eq_true rfl) (Nat.le_of_ble_eq_true rfl) dJ2_add_24
set_option maxHeartbeats 4000000 in
theorem cs_J2_add_n (l : Launch) {G : mG} {M0 : mM} {q v eb n : Nat} {z : Int32} {fsv : List Value} {fn : Nat → Option Nat} (h_q : M0 q = some (eO 9 [.int z, .ref eb, .int (nI n)])) (h_v : M0 v = some (eO 6 fsv)) (n_q_v : q ≠ v) (h_eb : M0 eb = some (eQ (G.2.1 4) 10 fn)) (n_q_eb : q ≠ eb) (n_v_eb : v ≠ eb) (hn : n < 10) : mMet l yJ2_add (ws_ yJ2_add cJ2_add 2 (some .boolean)) (mRm 7 1 10) [.ref q, .ref v] G (pPre M0) (pPost (mup (mup M0 eb (eQ (G.2.1 4) 10 (va_up fn n (some v)))) q (eO 9 [.int (z + nI 1), .ref eb, .int (nI (n + 1))])) (some (.int 1))) := by
  refine mMet.of (by decide +kernel) (Nat.le_of_ble_eq_true rfl) fun p e s m args below meth c A Q M hM0 F hnm hQ hM ls hl => ?_
  have hM0 : M0 = M := hM0.symm
  subst hM0
  have hl : lv_has ls 2 [(0, .ref q), (1, .ref v)] := hl
  refine lv_aload_n F.1.1 F.1.2.1 dJ2_add_0 rfl (lv_at hl 0 rfl) ?_
  refine lv_dup F.1.1 F.1.2.1 dJ2_add_1 rfl ?_
  refine cg9 F hM h_q 0 (by decide) q140 (u_same (F.1.2.2.2.2 _ q141)) rfl dJ2_add_2 ?_
  refine mr_iconst F 1 dJ2_add_5 (by decide +kernel) ?_
  refine lv_iadd F.1.1 F.1.2.1 dJ2_add_6 ?_
  refine cp9 F hM h_q 0 (by decide) q140 (u_same (F.1.2.2.2.2 _ q141)) rfl rfl rfl (Nat.le_of_ble_eq_true rfl) dJ2_add_7 (fun H locs hM => ?_)
  have h_v := nw_put hM (Ne.symm n_q_v) h_v
  have h_eb := nw_put hM (Ne.symm n_q_eb) h_eb
  have h_q := nw_self hM
  refine lv_aload_n F.1.1 F.1.2.1 dJ2_add_10 rfl (lv_at hl 0 rfl) ?_
  refine lv_aload_n F.1.1 F.1.2.1 dJ2_add_11 rfl (lv_at hl 1 rfl) ?_
  refine lv_aload_n F.1.1 F.1.2.1 dJ2_add_12 rfl (lv_at hl 0 rfl) ?_
  refine cg9 F hM h_q 1 (by decide) q137 (fun x h => h) rfl dJ2_add_13 ?_
  refine lv_aload_n F.1.1 F.1.2.1 dJ2_add_16 rfl (lv_at hl 0 rfl) ?_
  refine cg9 F hM h_q 2 (by decide) q138 (fun x h => h) rfl dJ2_add_17 ?_
  refine mc_Vv (As := [_, _, _]) F hM (cs_J2_add_2_n l h_q h_v n_q_v h_eb n_q_eb n_v_eb hn) (cwV 3 F.1.2.2.2.2 (lw_V q1150 q1152 qs19 q74 q1153) rfl rfl rfl (by decide +kernel) (mRm_ok (by decide) (by decide))) h_q rfl rfl rfl rfl hl.1 rfl (Nat.le_of_ble_eq_true rfl) dJ2_add_20 ⟨Nat.le_of_ble_eq_true rfl, Nat.le_of_ble_eq_true rfl⟩ (fun H locs hM => ?_)
  refine mr_iconst F 1 dJ2_add_23 (by decide +kernel) ?_
  exact mr_zret F hQ (by first | rfl | exact nZ_bI _) hM ⟨rfl, mup_3 (Ne.symm n_q_eb)⟩ (Nat.le_of_ble_eq_true rfl) (Nat.le_of_ble_eq_true rfl) dJ2_add_24
