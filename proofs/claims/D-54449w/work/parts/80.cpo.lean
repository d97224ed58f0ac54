/-! THE SYSTEM: surfaces made and copied -/
set_option maxHeartbeats 4000000 in
theorem cs_X9_init (l : Launch) {G : mG} {M0 : mM} {ad : Nat → Nat} {n : Nat} {r : Nat → Int32} {f : Nat → UInt32} {dv : Nat → Int32} {q k : Nat} (hn : n ≤ 6) (h1 : k < 3 * n) (hS : sAt G ad n r f dv M0) (o_q : ∀ i, sL n i → ad i ≠ q) (hsc : r (96 + k) = nI 0 ∨ r (96 + k) = nI 1) (h_q : M0 q = some (eO 7 [.null, .null, .null, .int 0])) : mMet l yX9_init (ws_ yX9_init cX9_init 2 none) (mRm 2 3 120) [.ref q, .ref (ad (80 + k))] G (pPre M0) (fun _ ρ M1 => ρ = none ∧ suNew G q (sSl r (126 + 40 * k) 40) (sSl r (846 + 40 * k) 40) (sSf f (40 * k) 40) (r (96 + k)) M0 M1) := by
  refine mMet.of (by decide +kernel) (Nat.le_of_ble_eq_true rfl) fun p e s m args below meth c A Q M hM0 F hnm hQ hM ls hl => ?_
  have hM0 : M0 = M := hM0.symm
  subst hM0
  have hl : lv_has ls 2 [(0, .ref q), (1, .ref (ad (80 + k)))] := hl
  have hN : NewB M0 q M0 := fun a x h _ => h
  have hb0 := h_q
  refine lv_aload_n F.1.1 F.1.2.1 dX9_init_0 rfl (lv_at hl 0 rfl) ?_
  refine mr_obj F q1094 hl.1 (Nat.le_of_ble_eq_true rfl) (Nat.le_of_ble_eq_true rfl) dX9_init_1 ?_
  refine lv_aload_n F.1.1 F.1.2.1 dX9_init_4 rfl (lv_at hl 0 rfl) ?_
  refine lv_aload_n F.1.1 F.1.2.1 dX9_init_5 rfl (lv_at hl 1 rfl) ?_
  refine cg7 F hM (sq_S hS hn (by omega)) 0 (by decide) q1102 (fun x h => h) rfl dX9_init_6 ?_
  refine mr_cloneI F hM q1095 (sq_V hS hn (by omega)) hl.1 (Nat.le_of_ble_eq_true rfl) (Nat.le_of_ble_eq_true rfl) (Nat.le_of_ble_eq_true rfl) (Nat.le_of_ble_eq_true rfl) dX9_init_9 (fun u9 H hq_u9 hM => ?_)
  have n_q_u9 := kp_ne hq_u9 h_q
  have h_q := nw_new hM hq_u9 h_q
  have o_u9 := hS.out hq_u9
  have hS := nw_S hM hq_u9 hS
  have w_u9 := nw_F hq_u9 hN
  have z_u9 := hN.none hb0 hq_u9
  have hb0 := nw_new hM hq_u9 hb0
  have hN := nw_N hM hq_u9 hN
  have h_u9 := nw_self hM
  refine mr_castAI F hM q1096 h_u9 dX9_init_12 ?_
  refine cf7 F hM h_q 0 (by decide) q1102 (fun x h => h) rfl hnm rfl rfl rfl (Nat.le_of_ble_eq_true rfl) dX9_init_15 (fun H locs hM => ?_)
  have h_u9 := nw_put hM (Ne.symm n_q_u9) h_u9
  have hS := nw_SP hM o_q hS
  have hN := nw_NB hM hN
  have h_q := nw_self hM
  have hb0 := h_q
  refine lv_aload_n F.1.1 F.1.2.1 dX9_init_18 rfl (lv_at hl 0 rfl) ?_
  refine lv_aload_n F.1.1 F.1.2.1 dX9_init_19 rfl (lv_at hl 1 rfl) ?_
  refine cg7 F hM (sq_S hS hn (by omega)) 1 (by decide) q1105 (fun x h => h) rfl dX9_init_20 ?_
  refine mr_cloneI F hM q1095 (sq_O hS hn (by omega)) hl.1 (Nat.le_of_ble_eq_true rfl) (Nat.le_of_ble_eq_true rfl) (Nat.le_of_ble_eq_true rfl) (Nat.le_of_ble_eq_true rfl) dX9_init_23 (fun u23 H hq_u23 hM => ?_)
  have n_q_u23 := kp_ne hq_u23 h_q
  have n_u9_u23 := kp_ne hq_u23 h_u9
  have h_q := nw_new hM hq_u23 h_q
  have h_u9 := nw_new hM hq_u23 h_u9
  have o_u23 := hS.out hq_u23
  have hS := nw_S hM hq_u23 hS
  have w_u23 := nw_F hq_u23 hN
  have z_u23 := hN.none hb0 hq_u23
  have hb0 := nw_new hM hq_u23 hb0
  have hN := nw_N hM hq_u23 hN
  have h_u23 := nw_self hM
  refine mr_castAI F hM q1096 h_u23 dX9_init_26 ?_
  refine cf7 F hM h_q 1 (by decide) q1105 (fun x h => h) rfl hnm rfl rfl rfl (Nat.le_of_ble_eq_true rfl) dX9_init_29 (fun H locs hM => ?_)
  have h_u9 := nw_put hM (Ne.symm n_q_u9) h_u9
  have h_u23 := nw_put hM (Ne.symm n_q_u23) h_u23
  have hS := nw_SP hM o_q hS
  have hN := nw_NB hM hN
  have h_q := nw_self hM
  have hb0 := h_q
  refine lv_aload_n F.1.1 F.1.2.1 dX9_init_32 rfl (lv_at hl 0 rfl) ?_
  refine lv_aload_n F.1.1 F.1.2.1 dX9_init_33 rfl (lv_at hl 1 rfl) ?_
  refine cg7 F hM (sq_S hS hn (by omega)) 2 (by decide) q1108 (fun x h => h) rfl dX9_init_34 ?_
  refine mr_cloneF F hM q1097 (sq_F hS (by omega)) hl.1 (Nat.le_of_ble_eq_true rfl) (Nat.le_of_ble_eq_true rfl) (Nat.le_of_ble_eq_true rfl) (Nat.le_of_ble_eq_true rfl) dX9_init_37 (fun u37 H hq_u37 hM => ?_)
  have n_q_u37 := kp_ne hq_u37 h_q
  have n_u9_u37 := kp_ne hq_u37 h_u9
  have n_u23_u37 := kp_ne hq_u37 h_u23
  have h_q := nw_new hM hq_u37 h_q
  have h_u9 := nw_new hM hq_u37 h_u9
  have h_u23 := nw_new hM hq_u37 h_u23
  have o_u37 := hS.out hq_u37
  have hS := nw_S hM hq_u37 hS
  have w_u37 := nw_F hq_u37 hN
  have z_u37 := hN.none hb0 hq_u37
  have hb0 := nw_new hM hq_u37 hb0
  have hN := nw_N hM hq_u37 hN
  have h_u37 := nw_self hM
  refine mr_castAF F hM q1101 h_u37 dX9_init_40 ?_
  refine cf7 F hM h_q 2 (by decide) q1108 (fun x h => h) rfl hnm rfl rfl rfl (Nat.le_of_ble_eq_true rfl) dX9_init_43 (fun H locs hM => ?_)
  have h_u9 := nw_put hM (Ne.symm n_q_u9) h_u9
  have h_u23 := nw_put hM (Ne.symm n_q_u23) h_u23
  have h_u37 := nw_put hM (Ne.symm n_q_u37) h_u37
  have hS := nw_SP hM o_q hS
  have hN := nw_NB hM hN
  have h_q := nw_self hM
  have hb0 := h_q
  refine lv_aload_n F.1.1 F.1.2.1 dX9_init_46 rfl (lv_at hl 0 rfl) ?_
  refine lv_aload_n F.1.1 F.1.2.1 dX9_init_47 rfl (lv_at hl 1 rfl) ?_
  refine cg7 F hM (sq_S hS hn (by omega)) 3 (by decide) q1111 (fun x h => h) rfl dX9_init_48 ?_
  refine cp7 F hM h_q 3 (by decide) q1111 (fun x h => h) rfl (nZ01 hsc) (fZ01 hsc) (Nat.le_of_ble_eq_true rfl) dX9_init_51 (fun H locs hM => ?_)
  have h_u9 := nw_put hM (Ne.symm n_q_u9) h_u9
  have h_u23 := nw_put hM (Ne.symm n_q_u23) h_u23
  have h_u37 := nw_put hM (Ne.symm n_q_u37) h_u37
  have hS := nw_SP hM o_q hS
  have hN := nw_NB hM hN
  have h_q := nw_self hM
  have hb0 := h_q
  exact mr_vret F hQ hM ⟨rfl, f4 q u9 u23 u37, rfl, f4_inj n_q_u9 n_q_u23 n_q_u37 n_u9_u23 n_u9_u37 n_u23_u37, (fun i h1 h2 => by
      have : i = 1 ∨ i = 2 ∨ i = 3 := by omega
      rcases this with rfl | rfl | rfl
      · exact z_u9
      · exact z_u23
      · exact z_u37), hN, h_q, h_u9, h_u23, h_u37⟩ (Nat.le_of_ble_eq_true rfl) (Nat.le_of_ble_eq_true rfl) dX9_init_54
set_option maxHeartbeats 4000000 in
theorem cs_X9_init_2 (l : Launch) {G : mG} {M0 : mM} {q : Nat} (h_q : M0 q = some (eO 7 [.null, .null, .null, .int 0])) : mMet l yX9_init_2 (ws_ yX9_init_2 cX9_init_2 2 none) (mRm 2 3 120) [.ref q] G (pPre M0) (fun _ ρ M1 => ρ = none ∧ suNew G q (fun j => if j < 40 then (-1 : Int32) else 0) (fun _ => 0) (fun _ => 0) 0 M0 M1) := by
  refine mMet.of (by decide +kernel) (Nat.le_of_ble_eq_true rfl) fun p e s m args below meth c A Q M hM0 F hnm hQ hM ls hl => ?_
  have hM0 : M0 = M := hM0.symm
  subst hM0
  have hl : lv_has ls 2 [(0, .ref q)] := hl
  have hN : NewB M0 q M0 := fun a x h _ => h
  have hb0 := h_q
  refine lv_aload_n F.1.1 F.1.2.1 dX9_init_2_0 rfl (lv_at hl 0 rfl) ?_
  refine mr_obj F q1094 hl.1 (Nat.le_of_ble_eq_true rfl) (Nat.le_of_ble_eq_true rfl) dX9_init_2_1 ?_
  refine lv_aload_n F.1.1 F.1.2.1 dX9_init_2_4 rfl (lv_at hl 0 rfl) ?_
  refine mr_bipush F 40 dX9_init_2_5 (by decide +kernel) ?_
  refine mr_newi F.1.1 F.1.2.1 F.1.2.2.2.2 q186 F.2.1 hM F.2.2.2.2.1 (Nat.le_of_ble_eq_true rfl) (Nat.le_of_ble_eq_true rfl) (Nat.le_of_ble_eq_true rfl) dX9_init_2_7 (fun u7 H hq_u7 _ hM => ?_)
  have n_q_u7 := kp_ne hq_u7 h_q
  have h_q := nw_new hM hq_u7 h_q
  have w_u7 := nw_F hq_u7 hN
  have z_u7 := hN.none hb0 hq_u7
  have hb0 := nw_new hM hq_u7 hb0
  have hN := nw_N hM hq_u7 hN
  have h_u7 := nw_self hM
  refine cf7 F hM h_q 0 (by decide) q1102 (fun x h => h) rfl hnm rfl rfl rfl (Nat.le_of_ble_eq_true rfl) dX9_init_2_9 (fun H locs hM => ?_)
  have h_u7 := nw_put hM (Ne.symm n_q_u7) h_u7
  have hN := nw_NB hM hN
  have h_q := nw_self hM
  have hb0 := h_q
  refine lv_aload_n F.1.1 F.1.2.1 dX9_init_2_12 rfl (lv_at hl 0 rfl) ?_
  refine mr_bipush F 40 dX9_init_2_13 (by decide +kernel) ?_
  refine mr_newi F.1.1 F.1.2.1 F.1.2.2.2.2 q186 F.2.1 hM F.2.2.2.2.1 (Nat.le_of_ble_eq_true rfl) (Nat.le_of_ble_eq_true rfl) (Nat.le_of_ble_eq_true rfl) dX9_init_2_15 (fun u15 H hq_u15 _ hM => ?_)
  have n_q_u15 := kp_ne hq_u15 h_q
  have n_u7_u15 := kp_ne hq_u15 h_u7
  have h_q := nw_new hM hq_u15 h_q
  have h_u7 := nw_new hM hq_u15 h_u7
  have w_u15 := nw_F hq_u15 hN
  have z_u15 := hN.none hb0 hq_u15
  have hb0 := nw_new hM hq_u15 hb0
  have hN := nw_N hM hq_u15 hN
  have h_u15 := nw_self hM
  refine cf7 F hM h_q 1 (by decide) q1105 (fun x h => h) rfl hnm rfl rfl rfl (Nat.le_of_ble_eq_true rfl) dX9_init_2_17 (fun H locs hM => ?_)
  have h_u7 := nw_put hM (Ne.symm n_q_u7) h_u7
  have h_u15 := nw_put hM (Ne.symm n_q_u15) h_u15
  have hN := nw_NB hM hN
  have h_q := nw_self hM
  have hb0 := h_q
  refine lv_aload_n F.1.1 F.1.2.1 dX9_init_2_20 rfl (lv_at hl 0 rfl) ?_
  refine mr_bipush F 40 dX9_init_2_21 (by decide +kernel) ?_
  refine mr_newf F.1.1 F.1.2.1 F.1.2.2.2.2 q1124 F.2.1 hM F.2.2.2.2.1 (Nat.le_of_ble_eq_true rfl) (Nat.le_of_ble_eq_true rfl) (Nat.le_of_ble_eq_true rfl) dX9_init_2_23 (fun u23 H hq_u23 _ hM => ?_)
  have n_q_u23 := kp_ne hq_u23 h_q
  have n_u7_u23 := kp_ne hq_u23 h_u7
  have n_u15_u23 := kp_ne hq_u23 h_u15
  have h_q := nw_new hM hq_u23 h_q
  have h_u7 := nw_new hM hq_u23 h_u7
  have h_u15 := nw_new hM hq_u23 h_u15
  have w_u23 := nw_F hq_u23 hN
  have z_u23 := hN.none hb0 hq_u23
  have hb0 := nw_new hM hq_u23 hb0
  have hN := nw_N hM hq_u23 hN
  have h_u23 := nw_self hM
  refine cf7 F hM h_q 2 (by decide) q1108 (fun x h => h) rfl hnm rfl rfl rfl (Nat.le_of_ble_eq_true rfl) dX9_init_2_25 (fun H locs hM => ?_)
  have h_u7 := nw_put hM (Ne.symm n_q_u7) h_u7
  have h_u15 := nw_put hM (Ne.symm n_q_u15) h_u15
  have h_u23 := nw_put hM (Ne.symm n_q_u23) h_u23
  have hN := nw_NB hM hN
  have h_q := nw_self hM
  have hb0 := h_q
  refine mr_iconst F 0 dX9_init_2_28 (by decide +kernel) ?_
  refine lv_istore_n (lv' := [(1, _), (0, _)]) F.1.1 F.1.2.1 dX9_init_2_29 rfl hl (by decide) rfl (fun ls hl => ?_)
  have lp : ∀ j i : Nat, i + j = 40 → ∀ (Mx : mM) (H : Heap) (locs : List Loc), mWd G A s.heap Mx H locs → NewB M0 q Mx → Mx q = some (eO 7 [.ref u7, .ref u15, .ref u23, .int 0]) → Mx u7 = some (eI (G.2.1 0) 40 (fun j => if j < i then (-1 : Int32) else 0)) → Mx u15 = some (eI (G.2.1 0) 40 (fun _ => 0)) → Mx u23 = some (eF (G.2.1 1) 40 (fun _ => 0)) → ∀ ls : Array Slot, lv_has ls 2 [(1, .int (nI i)), (0, .ref q)] → W p l e (mRm 2 3 120) s m args below meth c H locs 3 120 Q (F0 m 30 ls []) := by
    intro j
    induction j with
    | zero =>
      intro i hi Mx H locs hM hN h_q h_u7 h_u15 h_u23 ls hl
      obtain rfl : i = 40 := by omega
      have hb0 := h_q
      refine lv_iload_n F.1.1 F.1.2.1 dX9_init_2_30 rfl (lv_at hl 0 rfl) ?_
      refine mr_bipush F 40 dX9_init_2_31 (by decide +kernel) ?_
      refine mr_icmp_geN F (tgt := 49) dX9_init_2_33 (by decide) (by omega) (by omega) (fun c33 => ?_) (fun c33 => ?_)
      · exact mr_vret F hQ hM ⟨rfl, f4 q u7 u15 u23, rfl, f4_inj n_q_u7 n_q_u15 n_q_u23 n_u7_u15 n_u7_u23 n_u15_u23, (fun i h1 h2 => by
                have : i = 1 ∨ i = 2 ∨ i = 3 := by omega
                rcases this with rfl | rfl | rfl
                · exact z_u7
                · exact z_u15
                · exact z_u23), hN, h_q, h_u7, h_u15, h_u23⟩ (Nat.le_of_ble_eq_true rfl) (Nat.le_of_ble_eq_true rfl) dX9_init_2_49
      · exact absurd c33 (by omega)
    | succ j ih =>
      intro i hi Mx H locs hM hN h_q h_u7 h_u15 h_u23 ls hl
      have hb0 := h_q
      refine lv_iload_n F.1.1 F.1.2.1 dX9_init_2_30 rfl (lv_at hl 0 rfl) ?_
      refine mr_bipush F 40 dX9_init_2_31 (by decide +kernel) ?_
      refine mr_icmp_geN F (tgt := 49) dX9_init_2_33 (by decide) (by omega) (by omega) (fun c33 => ?_) (fun c33 => ?_)
      · exact absurd c33 (by omega)
      · refine lv_aload_n F.1.1 F.1.2.1 dX9_init_2_36 rfl (lv_at hl 1 rfl) ?_
        refine cg7 F hM h_q 0 (by decide) q1102 (fun x h => h) rfl dX9_init_2_37 ?_
        refine lv_iload_n F.1.1 F.1.2.1 dX9_init_2_40 rfl (lv_at hl 0 rfl) ?_
        refine lv_iconst (v := -1) F.1.1 F.1.2.1 dX9_init_2_41 (by decide +kernel) ?_
        refine mr_iast F.1.1 F.1.2.1 F.2.1 hM h_u7 (by omega) (by omega) dX9_init_2_42 (fun H locs hM => ?_)
        have h_q := nw_put hM n_q_u7 h_q
        have h_u15 := nw_put hM (Ne.symm n_u7_u15) h_u15
        have h_u23 := nw_put hM (Ne.symm n_u7_u23) h_u23
        have hN := nw_NP hM w_u7 hN
        have hb0 := nw_put hM n_q_u7 hb0
        have h_u7 := nw_self hM
        refine lv_iinc (lv' := [(1, _), (0, _)]) F.1.1 F.1.2.1 dX9_init_2_43 hl (k := 0) rfl (nK_add _ 1) (by decide) rfl (fun ls hl => ?_)
        refine lv_goto (tgt := 30) F.1.1 F.1.2.1 dX9_init_2_46 (by decide) ?_
        exact ih (i + 1) (by omega) _ _ _ hM hN h_q (by rw [← fill_s]; exact h_u7) h_u15 h_u23 _ (lv_sub hl [0, 1] rfl)
  exact lp 40 0 rfl _ _ _ hM hN h_q (by rw [fill0]; exact h_u7) h_u15 h_u23 _ hl
set_option maxHeartbeats 4000000 in
theorem cs_X9_copy (l : Launch) {G : mG} {M0 : mM} {ad : Nat → Nat} {n : Nat} {r : Nat → Int32} {f : Nat → UInt32} {dv : Nat → Int32} {k : Nat} (hn : n ≤ 6) (h1 : k < 3 * n) (hS : sAt G ad n r f dv M0) (hsc : r (96 + k) = nI 0 ∨ r (96 + k) = nI 1) : mMet l yX9_copy (ws_ yX9_copy cX9_copy 1 (some (.object "DiskPacks$Surface"))) (mRm 3 4 124) [.ref (ad (80 + k))] G (pPre M0) (fun _ ρ M1 => ∃ q, ρ = some (.ref q) ∧ suMade G q (sSl r (126 + 40 * k) 40) (sSl r (846 + 40 * k) 40) (sSf f (40 * k) 40) (r (96 + k)) M0 M1) := by
  refine mMet.of (by decide +kernel) (Nat.le_of_ble_eq_true rfl) fun p e s m args below meth c A Q M hM0 F hnm hQ hM ls hl => ?_
  have hM0 : M0 = M := hM0.symm
  subst hM0
  have hl : lv_has ls 1 [(0, .ref (ad (80 + k)))] := hl
  have hN : New M0 M0 := fun a x h => h
  refine cn7 F hM q1089 (Nat.le_of_ble_eq_true rfl) (Nat.le_of_ble_eq_true rfl) dX9_copy_0 (fun w0 H hq_w0 hM => ?_)
  have o_w0 := hS.out hq_w0
  have hS := nw_S hM hq_w0 hS
  have w_w0 := nw_F0 hq_w0 hN
  have z_w0 := hN.none hq_w0
  have hN := nw_N0 hM hq_w0 hN
  have h_w0 := nw_self hM
  refine lv_dup F.1.1 F.1.2.1 dX9_copy_3 rfl ?_
  refine lv_aload_n F.1.1 F.1.2.1 dX9_copy_4 rfl (lv_at hl 0 rfl) ?_
  refine mc_I (As := [_]) F hM (cs_X9_init l hn h1 hS o_w0 hsc h_w0) (cwI 1 F.1.2.2.2.2 (lw_meth q1093) rfl rfl rfl (F.1.2.2.2.2 _ q95) (F.1.2.2.2.2 _ q1091) (F.1.2.2.2.2 _ q1092) rfl (by decide +kernel) (mRm_ok (by decide) (by decide))) rfl rfl hl.1 rfl (Nat.le_of_ble_eq_true rfl) dX9_copy_5 ⟨Nat.le_of_ble_eq_true rfl, Nat.le_of_ble_eq_true rfl⟩ (fun ρ5 M5 H locs hP5 hM hz5 => ?_)
  obtain ⟨rfl, hP5⟩ := hP5
  exact mr_aret F hQ (by first | exact Or.inl ⟨_, rfl⟩ | exact Or.inr ⟨_, rfl⟩) hM ⟨w0, rfl, suMade.of hq_w0 hP5⟩ (Nat.le_of_ble_eq_true rfl) (Nat.le_of_ble_eq_true rfl) dX9_copy_8
