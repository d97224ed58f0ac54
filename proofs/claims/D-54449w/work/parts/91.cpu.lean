/-! THE SYSTEM: drives copied -/
set_option maxHeartbeats 4000000 in
theorem cs_X3_init_2 (l : Launch) {G : mG} {M0 : mM} {ad : Nat → Nat} {n : Nat} {r : Nat → Int32} {f : Nat → UInt32} {dv : Nat → Int32} {q d : Nat} (h1 : d < 4) (hS : sAt G ad n r f dv M0) (o_q : ∀ i, sL n i → ad i ≠ q) (hst : ∀ j, j < 16 → r (16 + j) = nI 0 ∨ r (16 + j) = nI 1) (hsv : r (56 + d) = nI 0 ∨ r (56 + d) = nI 1) (h_q : M0 q = some (eO 2 [.null, .null, .null, .int 0, .int 0, .int 0, .int 0])) : mMet l yX3_init_2 (ws_ yX3_init_2 cX3_init_2 3 none) (mRm 6 6 21) [.ref q, .ref (ad (10 + d))] G (pPre M0) (fun _ ρ M1 => ρ = none ∧ drNew G q d r f dv M0 M1) := by
  refine mMet.of (by decide +kernel) (Nat.le_of_ble_eq_true rfl) fun p e s m args below meth c A Q M hM0 F hnm hQ hM ls hl => ?_
  have hM0 : M0 = M := hM0.symm
  subst hM0
  have hl : lv_has ls 3 [(0, .ref q), (1, .ref (ad (10 + d)))] := hl
  have hN : NewB M0 q M0 := fun a x h _ => h
  have hb0 := h_q
  refine lv_aload_n F.1.1 F.1.2.1 dX3_init_2_0 rfl (lv_at hl 0 rfl) ?_
  refine mr_obj F q153 hl.1 (Nat.le_of_ble_eq_true rfl) (Nat.le_of_ble_eq_true rfl) dX3_init_2_1 ?_
  refine lv_aload_n F.1.1 F.1.2.1 dX3_init_2_4 rfl (lv_at hl 0 rfl) ?_
  refine mr_iconst F 3 dX3_init_2_5 (by decide +kernel) ?_
  refine mr_newQ F hM 5 q154 q155 rfl (Nat.le_of_ble_eq_true rfl) (Nat.le_of_ble_eq_true rfl) (Nat.le_of_ble_eq_true rfl) dX3_init_2_6 (fun u6 H hq_u6 hM => ?_)
  have n_q_u6 := kp_ne hq_u6 h_q
  have h_q := nw_new hM hq_u6 h_q
  have o_u6 := hS.out hq_u6
  have hS := nw_S hM hq_u6 hS
  have w_u6 := nw_F hq_u6 hN
  have z_u6 := hN.none hb0 hq_u6
  have hb0 := nw_new hM hq_u6 hb0
  have hN := nw_N hM hq_u6 hN
  have h_u6 := nw_self hM
  refine cf2 F hM h_q 0 (by decide) q273 (fun x h => h) rfl hnm rfl rfl rfl (Nat.le_of_ble_eq_true rfl) dX3_init_2_9 (fun H locs hM => ?_)
  have h_u6 := nw_put hM (Ne.symm n_q_u6) h_u6
  have hS := nw_SP hM o_q hS
  have hN := nw_NB hM hN
  have h_q := nw_self hM
  have hb0 := h_q
  refine lv_aload_n F.1.1 F.1.2.1 dX3_init_2_12 rfl (lv_at hl 0 rfl) ?_
  refine lv_iconst (v := -1) F.1.1 F.1.2.1 dX3_init_2_13 (by decide +kernel) ?_
  refine cp2 F hM h_q 6 (by decide) q288 (fun x h => h) rfl rfl rfl (Nat.le_of_ble_eq_true rfl) dX3_init_2_14 (fun H locs hM => ?_)
  have h_u6 := nw_put hM (Ne.symm n_q_u6) h_u6
  have hS := nw_SP hM o_q hS
  have hN := nw_NB hM hN
  have h_q := nw_self hM
  have hb0 := h_q
  refine lv_aload_n F.1.1 F.1.2.1 dX3_init_2_17 rfl (lv_at hl 0 rfl) ?_
  refine lv_aload_n F.1.1 F.1.2.1 dX3_init_2_18 rfl (lv_at hl 1 rfl) ?_
  refine cg2 F hM (sq_D hS (by omega)) 2 (by decide) q277 (fun x h => h) rfl dX3_init_2_19 ?_
  refine mr_cloneI F hM q1052 (sq_L hS (by omega)) hl.1 (Nat.le_of_ble_eq_true rfl) (Nat.le_of_ble_eq_true rfl) (Nat.le_of_ble_eq_true rfl) (Nat.le_of_ble_eq_true rfl) dX3_init_2_22 (fun u22 H hq_u22 hM => ?_)
  have n_q_u22 := kp_ne hq_u22 h_q
  have n_u6_u22 := kp_ne hq_u22 h_u6
  have h_q := nw_new hM hq_u22 h_q
  have h_u6 := nw_new hM hq_u22 h_u6
  have o_u22 := hS.out hq_u22
  have hS := nw_S hM hq_u22 hS
  have w_u22 := nw_F hq_u22 hN
  have z_u22 := hN.none hb0 hq_u22
  have hb0 := nw_new hM hq_u22 hb0
  have hN := nw_N hM hq_u22 hN
  have h_u22 := nw_self hM
  refine mr_castAI F hM q1053 h_u22 dX3_init_2_25 ?_
  refine cf2 F hM h_q 2 (by decide) q277 (fun x h => h) rfl hnm rfl rfl rfl (Nat.le_of_ble_eq_true rfl) dX3_init_2_28 (fun H locs hM => ?_)
  have h_u6 := nw_put hM (Ne.symm n_q_u6) h_u6
  have h_u22 := nw_put hM (Ne.symm n_q_u22) h_u22
  have hS := nw_SP hM o_q hS
  have hN := nw_NB hM hN
  have h_q := nw_self hM
  have hb0 := h_q
  refine lv_aload_n F.1.1 F.1.2.1 dX3_init_2_31 rfl (lv_at hl 0 rfl) ?_
  refine lv_aload_n F.1.1 F.1.2.1 dX3_init_2_32 rfl (lv_at hl 1 rfl) ?_
  refine cg2 F hM (sq_D hS (by omega)) 1 (by decide) q274 (fun x h => h) rfl dX3_init_2_33 ?_
  refine mc_U (As := []) F hM (cs_X4_copy_rHS l hS (hst (4 * d + 3) (by omega)) (by omega)) (va_cwU (owner := "DiskPacks$Head") 0 F.1.2.2.2.2 (lw_U q1054 q1056 q1058 q1055 q76 q1059) rfl rfl rfl rfl (by decide +kernel) (mRm_ok (by decide) (by decide))) rfl (sq_HS hS (by omega)) rfl rfl rfl hl.1 rfl (Nat.le_of_ble_eq_true rfl) dX3_init_2_36 ⟨Nat.le_of_ble_eq_true rfl, Nat.le_of_ble_eq_true rfl⟩ (fun ρ36 M36 H locs hP36 hM hz36 => ?_)
  obtain ⟨s0, rfl, hq_s0, hw_s0, hc_s0⟩ := hP36
  have n_q_s0 := kp_ne hq_s0 h_q
  have n_u6_s0 := kp_ne hq_s0 h_u6
  have n_u22_s0 := kp_ne hq_s0 h_u22
  have h_q := hw_s0 _ _ h_q
  have h_u6 := hw_s0 _ _ h_u6
  have h_u22 := hw_s0 _ _ h_u22
  have o_s0 := hS.out hq_s0
  have hS := New.S hw_s0 hS
  have w_s0 := nw_F hq_s0 hN
  have z_s0 := hN.none hb0 hq_s0
  have hb0 := hw_s0 _ _ hb0
  have hN : NewB M0 q _ := fun a x h hb => hw_s0 _ _ (hN a x h hb)
  have h_s0 := hc_s0
  refine cf2 F hM h_q 1 (by decide) q274 (fun x h => h) rfl hnm rfl rfl rfl (Nat.le_of_ble_eq_true rfl) dX3_init_2_39 (fun H locs hM => ?_)
  have h_u6 := nw_put hM (Ne.symm n_q_u6) h_u6
  have h_u22 := nw_put hM (Ne.symm n_q_u22) h_u22
  have h_s0 := nw_put hM (Ne.symm n_q_s0) h_s0
  have hS := nw_SP hM o_q hS
  have hN := nw_NB hM hN
  have h_q := nw_self hM
  have hb0 := h_q
  refine mr_iconst F 0 dX3_init_2_42 (by decide +kernel) ?_
  refine lv_istore_n (lv' := [(2, _), (0, _), (1, _)]) F.1.1 F.1.2.1 dX3_init_2_43 rfl hl (by decide) rfl (fun ls hl => ?_)
  refine lv_iload_n F.1.1 F.1.2.1 dX3_init_2_44 rfl (lv_at hl 0 rfl) ?_
  refine mr_iconst F 3 dX3_init_2_45 (by decide +kernel) ?_
  refine mr_icmp_geN F (tgt := 73) dX3_init_2_46 (by decide) (by omega) (by omega) (fun c46 => ?_) (fun c46 => ?_)
  · exact absurd c46 (by decide)
  · refine lv_aload_n F.1.1 F.1.2.1 dX3_init_2_49 rfl (lv_at hl 1 rfl) ?_
    refine cg2 F hM h_q 0 (by decide) q273 (fun x h => h) rfl dX3_init_2_50 ?_
    refine lv_iload_n F.1.1 F.1.2.1 dX3_init_2_53 rfl (lv_at hl 0 rfl) ?_
    refine lv_aload_n F.1.1 F.1.2.1 dX3_init_2_54 rfl (lv_at hl 2 rfl) ?_
    refine cg2 F hM (sq_D hS (by omega)) 0 (by decide) q273 (fun x h => h) rfl dX3_init_2_55 ?_
    refine lv_iload_n F.1.1 F.1.2.1 dX3_init_2_58 rfl (lv_at hl 0 rfl) ?_
    refine mr_aald F.1.1 F.1.2.1 F.2.1 hM 5 (sq_A hS (by omega)) rfl (by omega) (by omega) (sSa_rf (by omega) (show 40 + 4 * d + 0 = 40 + (4 * d + 0) by omega)) dX3_init_2_59 ?_
    refine mc_U (As := []) F hM (cs_X4_copy_rHD l hS (hst (4 * d + 0) (by omega)) (by omega) (by omega)) (va_cwU (owner := "DiskPacks$Head") 0 F.1.2.2.2.2 (lw_U q1054 q1056 q1057 q1055 q76 q1059) rfl rfl rfl rfl (by decide +kernel) (mRm_ok (by decide) (by decide))) rfl (sq_HD hS (by omega) (by omega)) rfl rfl rfl hl.1 rfl (Nat.le_of_ble_eq_true rfl) dX3_init_2_60 ⟨Nat.le_of_ble_eq_true rfl, Nat.le_of_ble_eq_true rfl⟩ (fun ρ60 M60 H locs hP60 hM hz60 => ?_)
    obtain ⟨c0, rfl, hq_c0, hw_c0, hc_c0⟩ := hP60
    have n_q_c0 := kp_ne hq_c0 h_q
    have n_u6_c0 := kp_ne hq_c0 h_u6
    have n_u22_c0 := kp_ne hq_c0 h_u22
    have n_s0_c0 := kp_ne hq_c0 h_s0
    have h_q := hw_c0 _ _ h_q
    have h_u6 := hw_c0 _ _ h_u6
    have h_u22 := hw_c0 _ _ h_u22
    have h_s0 := hw_c0 _ _ h_s0
    have o_c0 := hS.out hq_c0
    have hS := New.S hw_c0 hS
    have w_c0 := nw_F hq_c0 hN
    have z_c0 := hN.none hb0 hq_c0
    have hb0 := hw_c0 _ _ hb0
    have hN : NewB M0 q _ := fun a x h hb => hw_c0 _ _ (hN a x h hb)
    have h_c0 := hc_c0
    refine mc_SNW (n := 3) (As := [_, _, _]) F hM (cs_X1_fits_ok l h_u6 h_c0 (by omega)) q198 q196 q197 q70 (by decide +kernel) (mRm_ok (by decide) (by decide)) rfl rfl hl.1 rfl (Nat.le_of_ble_eq_true rfl) dX3_init_2_63 ⟨Nat.le_of_ble_eq_true rfl, Nat.le_of_ble_eq_true rfl⟩ (fun H locs hM => ?_)
    have h_q := nw_put hM n_q_u6 h_q
    have h_u22 := nw_put hM (Ne.symm n_u6_u22) h_u22
    have h_s0 := nw_put hM (Ne.symm n_u6_s0) h_s0
    have h_c0 := nw_put hM (Ne.symm n_u6_c0) h_c0
    have hS := nw_SP hM o_u6 hS
    have hN := nw_NP hM w_u6 hN
    have hb0 := nw_put hM n_q_u6 hb0
    have h_u6 := nw_self hM
    refine lv_pop F.1.1 F.1.2.1 dX3_init_2_66 rfl ?_
    refine lv_iinc (lv' := [(2, _), (0, _), (1, _)]) F.1.1 F.1.2.1 dX3_init_2_67 hl (k := 0) rfl (nK_add _ 1) (by decide) rfl (fun ls hl => ?_)
    refine lv_goto (tgt := 44) F.1.1 F.1.2.1 dX3_init_2_70 (by decide) ?_
    refine lv_iload_n F.1.1 F.1.2.1 dX3_init_2_44 rfl (lv_at hl 0 rfl) ?_
    refine mr_iconst F 3 dX3_init_2_45 (by decide +kernel) ?_
    refine mr_icmp_geN F (tgt := 73) dX3_init_2_46 (by decide) (by omega) (by omega) (fun c46 => ?_) (fun c46 => ?_)
    · exact absurd c46 (by decide)
    · refine lv_aload_n F.1.1 F.1.2.1 dX3_init_2_49 rfl (lv_at hl 1 rfl) ?_
      refine cg2 F hM h_q 0 (by decide) q273 (fun x h => h) rfl dX3_init_2_50 ?_
      refine lv_iload_n F.1.1 F.1.2.1 dX3_init_2_53 rfl (lv_at hl 0 rfl) ?_
      refine lv_aload_n F.1.1 F.1.2.1 dX3_init_2_54 rfl (lv_at hl 2 rfl) ?_
      refine cg2 F hM (sq_D hS (by omega)) 0 (by decide) q273 (fun x h => h) rfl dX3_init_2_55 ?_
      refine lv_iload_n F.1.1 F.1.2.1 dX3_init_2_58 rfl (lv_at hl 0 rfl) ?_
      refine mr_aald F.1.1 F.1.2.1 F.2.1 hM 5 (sq_A hS (by omega)) rfl (by omega) (by omega) (sSa_rf (by omega) (show 40 + 4 * d + (0 + 1) = 40 + (4 * d + (0 + 1)) by omega)) dX3_init_2_59 ?_
      refine mc_U (As := []) F hM (cs_X4_copy_rHD l hS (hst (4 * d + (0 + 1)) (by omega)) (by omega) (by omega)) (va_cwU (owner := "DiskPacks$Head") 0 F.1.2.2.2.2 (lw_U q1054 q1056 q1057 q1055 q76 q1059) rfl rfl rfl rfl (by decide +kernel) (mRm_ok (by decide) (by decide))) rfl (sq_HD hS (by omega) (by omega)) rfl rfl rfl hl.1 rfl (Nat.le_of_ble_eq_true rfl) dX3_init_2_60 ⟨Nat.le_of_ble_eq_true rfl, Nat.le_of_ble_eq_true rfl⟩ (fun ρ60 M60 H locs hP60 hM hz60 => ?_)
      obtain ⟨c1, rfl, hq_c1, hw_c1, hc_c1⟩ := hP60
      have n_q_c1 := kp_ne hq_c1 h_q
      have n_u6_c1 := kp_ne hq_c1 h_u6
      have n_u22_c1 := kp_ne hq_c1 h_u22
      have n_s0_c1 := kp_ne hq_c1 h_s0
      have n_c0_c1 := kp_ne hq_c1 h_c0
      have h_q := hw_c1 _ _ h_q
      have h_u6 := hw_c1 _ _ h_u6
      have h_u22 := hw_c1 _ _ h_u22
      have h_s0 := hw_c1 _ _ h_s0
      have h_c0 := hw_c1 _ _ h_c0
      have o_c1 := hS.out hq_c1
      have hS := New.S hw_c1 hS
      have w_c1 := nw_F hq_c1 hN
      have z_c1 := hN.none hb0 hq_c1
      have hb0 := hw_c1 _ _ hb0
      have hN : NewB M0 q _ := fun a x h hb => hw_c1 _ _ (hN a x h hb)
      have h_c1 := hc_c1
      refine mc_SNW (n := 3) (As := [_, _, _]) F hM (cs_X1_fits_ok l h_u6 h_c1 (by omega)) q198 q196 q197 q70 (by decide +kernel) (mRm_ok (by decide) (by decide)) rfl rfl hl.1 rfl (Nat.le_of_ble_eq_true rfl) dX3_init_2_63 ⟨Nat.le_of_ble_eq_true rfl, Nat.le_of_ble_eq_true rfl⟩ (fun H locs hM => ?_)
      have h_q := nw_put hM n_q_u6 h_q
      have h_u22 := nw_put hM (Ne.symm n_u6_u22) h_u22
      have h_s0 := nw_put hM (Ne.symm n_u6_s0) h_s0
      have h_c0 := nw_put hM (Ne.symm n_u6_c0) h_c0
      have h_c1 := nw_put hM (Ne.symm n_u6_c1) h_c1
      have hS := nw_SP hM o_u6 hS
      have hN := nw_NP hM w_u6 hN
      have hb0 := nw_put hM n_q_u6 hb0
      have h_u6 := nw_self hM
      refine lv_pop F.1.1 F.1.2.1 dX3_init_2_66 rfl ?_
      refine lv_iinc (lv' := [(2, _), (0, _), (1, _)]) F.1.1 F.1.2.1 dX3_init_2_67 hl (k := 0) rfl (nK_add _ 1) (by decide) rfl (fun ls hl => ?_)
      refine lv_goto (tgt := 44) F.1.1 F.1.2.1 dX3_init_2_70 (by decide) ?_
      refine lv_iload_n F.1.1 F.1.2.1 dX3_init_2_44 rfl (lv_at hl 0 rfl) ?_
      refine mr_iconst F 3 dX3_init_2_45 (by decide +kernel) ?_
      refine mr_icmp_geN F (tgt := 73) dX3_init_2_46 (by decide) (by omega) (by omega) (fun c46 => ?_) (fun c46 => ?_)
      · exact absurd c46 (by decide)
      · refine lv_aload_n F.1.1 F.1.2.1 dX3_init_2_49 rfl (lv_at hl 1 rfl) ?_
        refine cg2 F hM h_q 0 (by decide) q273 (fun x h => h) rfl dX3_init_2_50 ?_
        refine lv_iload_n F.1.1 F.1.2.1 dX3_init_2_53 rfl (lv_at hl 0 rfl) ?_
        refine lv_aload_n F.1.1 F.1.2.1 dX3_init_2_54 rfl (lv_at hl 2 rfl) ?_
        refine cg2 F hM (sq_D hS (by omega)) 0 (by decide) q273 (fun x h => h) rfl dX3_init_2_55 ?_
        refine lv_iload_n F.1.1 F.1.2.1 dX3_init_2_58 rfl (lv_at hl 0 rfl) ?_
        refine mr_aald F.1.1 F.1.2.1 F.2.1 hM 5 (sq_A hS (by omega)) rfl (by omega) (by omega) (sSa_rf (by omega) (show 40 + 4 * d + (0 + 1 + 1) = 40 + (4 * d + (0 + 1 + 1)) by omega)) dX3_init_2_59 ?_
        refine mc_U (As := []) F hM (cs_X4_copy_rHD l hS (hst (4 * d + (0 + 1 + 1)) (by omega)) (by omega) (by omega)) (va_cwU (owner := "DiskPacks$Head") 0 F.1.2.2.2.2 (lw_U q1054 q1056 q1057 q1055 q76 q1059) rfl rfl rfl rfl (by decide +kernel) (mRm_ok (by decide) (by decide))) rfl (sq_HD hS (by omega) (by omega)) rfl rfl rfl hl.1 rfl (Nat.le_of_ble_eq_true rfl) dX3_init_2_60 ⟨Nat.le_of_ble_eq_true rfl, Nat.le_of_ble_eq_true rfl⟩ (fun ρ60 M60 H locs hP60 hM hz60 => ?_)
        obtain ⟨c2, rfl, hq_c2, hw_c2, hc_c2⟩ := hP60
        have n_q_c2 := kp_ne hq_c2 h_q
        have n_u6_c2 := kp_ne hq_c2 h_u6
        have n_u22_c2 := kp_ne hq_c2 h_u22
        have n_s0_c2 := kp_ne hq_c2 h_s0
        have n_c0_c2 := kp_ne hq_c2 h_c0
        have n_c1_c2 := kp_ne hq_c2 h_c1
        have h_q := hw_c2 _ _ h_q
        have h_u6 := hw_c2 _ _ h_u6
        have h_u22 := hw_c2 _ _ h_u22
        have h_s0 := hw_c2 _ _ h_s0
        have h_c0 := hw_c2 _ _ h_c0
        have h_c1 := hw_c2 _ _ h_c1
        have o_c2 := hS.out hq_c2
        have hS := New.S hw_c2 hS
        have w_c2 := nw_F hq_c2 hN
        have z_c2 := hN.none hb0 hq_c2
        have hb0 := hw_c2 _ _ hb0
        have hN : NewB M0 q _ := fun a x h hb => hw_c2 _ _ (hN a x h hb)
        have h_c2 := hc_c2
        refine mc_SNW (n := 3) (As := [_, _, _]) F hM (cs_X1_fits_ok l h_u6 h_c2 (by omega)) q198 q196 q197 q70 (by decide +kernel) (mRm_ok (by decide) (by decide)) rfl rfl hl.1 rfl (Nat.le_of_ble_eq_true rfl) dX3_init_2_63 ⟨Nat.le_of_ble_eq_true rfl, Nat.le_of_ble_eq_true rfl⟩ (fun H locs hM => ?_)
        have h_q := nw_put hM n_q_u6 h_q
        have h_u22 := nw_put hM (Ne.symm n_u6_u22) h_u22
        have h_s0 := nw_put hM (Ne.symm n_u6_s0) h_s0
        have h_c0 := nw_put hM (Ne.symm n_u6_c0) h_c0
        have h_c1 := nw_put hM (Ne.symm n_u6_c1) h_c1
        have h_c2 := nw_put hM (Ne.symm n_u6_c2) h_c2
        have hS := nw_SP hM o_u6 hS
        have hN := nw_NP hM w_u6 hN
        have hb0 := nw_put hM n_q_u6 hb0
        have h_u6 := nw_self hM
        refine lv_pop F.1.1 F.1.2.1 dX3_init_2_66 rfl ?_
        refine lv_iinc (lv' := [(2, _), (0, _), (1, _)]) F.1.1 F.1.2.1 dX3_init_2_67 hl (k := 0) rfl (nK_add _ 1) (by decide) rfl (fun ls hl => ?_)
        refine lv_goto (tgt := 44) F.1.1 F.1.2.1 dX3_init_2_70 (by decide) ?_
        refine lv_iload_n F.1.1 F.1.2.1 dX3_init_2_44 rfl (lv_at hl 0 rfl) ?_
        refine mr_iconst F 3 dX3_init_2_45 (by decide +kernel) ?_
        refine mr_icmp_geN F (tgt := 73) dX3_init_2_46 (by decide) (by omega) (by omega) (fun c46 => ?_) (fun c46 => ?_)
        · refine lv_aload_n F.1.1 F.1.2.1 dX3_init_2_73 rfl (lv_at hl 1 rfl) ?_
          refine lv_aload_n F.1.1 F.1.2.1 dX3_init_2_74 rfl (lv_at hl 2 rfl) ?_
          refine cg2 F hM (sq_D hS (by omega)) 3 (by decide) q279 (fun x h => h) rfl dX3_init_2_75 ?_
          refine cp2 F hM h_q 3 (by decide) q279 (fun x h => h) rfl rfl rfl (Nat.le_of_ble_eq_true rfl) dX3_init_2_78 (fun H locs hM => ?_)
          have h_u6 := nw_put hM (Ne.symm n_q_u6) h_u6
          have h_u22 := nw_put hM (Ne.symm n_q_u22) h_u22
          have h_s0 := nw_put hM (Ne.symm n_q_s0) h_s0
          have h_c0 := nw_put hM (Ne.symm n_q_c0) h_c0
          have h_c1 := nw_put hM (Ne.symm n_q_c1) h_c1
          have h_c2 := nw_put hM (Ne.symm n_q_c2) h_c2
          have hS := nw_SP hM o_q hS
          have hN := nw_NB hM hN
          have h_q := nw_self hM
          have hb0 := h_q
          refine lv_aload_n F.1.1 F.1.2.1 dX3_init_2_81 rfl (lv_at hl 1 rfl) ?_
          refine lv_aload_n F.1.1 F.1.2.1 dX3_init_2_82 rfl (lv_at hl 2 rfl) ?_
          refine cg2 F hM (sq_D hS (by omega)) 4 (by decide) q282 (fun x h => h) rfl dX3_init_2_83 ?_
          refine cp2 F hM h_q 4 (by decide) q282 (fun x h => h) rfl rfl rfl (Nat.le_of_ble_eq_true rfl) dX3_init_2_86 (fun H locs hM => ?_)
          have h_u6 := nw_put hM (Ne.symm n_q_u6) h_u6
          have h_u22 := nw_put hM (Ne.symm n_q_u22) h_u22
          have h_s0 := nw_put hM (Ne.symm n_q_s0) h_s0
          have h_c0 := nw_put hM (Ne.symm n_q_c0) h_c0
          have h_c1 := nw_put hM (Ne.symm n_q_c1) h_c1
          have h_c2 := nw_put hM (Ne.symm n_q_c2) h_c2
          have hS := nw_SP hM o_q hS
          have hN := nw_NB hM hN
          have h_q := nw_self hM
          have hb0 := h_q
          refine lv_aload_n F.1.1 F.1.2.1 dX3_init_2_89 rfl (lv_at hl 1 rfl) ?_
          refine lv_aload_n F.1.1 F.1.2.1 dX3_init_2_90 rfl (lv_at hl 2 rfl) ?_
          refine cg2 F hM (sq_D hS (by omega)) 5 (by decide) q285 (fun x h => h) rfl dX3_init_2_91 ?_
          refine cp2 F hM h_q 5 (by decide) q285 (fun x h => h) rfl (nZ01 hsv) (fZ01 hsv) (Nat.le_of_ble_eq_true rfl) dX3_init_2_94 (fun H locs hM => ?_)
          have h_u6 := nw_put hM (Ne.symm n_q_u6) h_u6
          have h_u22 := nw_put hM (Ne.symm n_q_u22) h_u22
          have h_s0 := nw_put hM (Ne.symm n_q_s0) h_s0
          have h_c0 := nw_put hM (Ne.symm n_q_c0) h_c0
          have h_c1 := nw_put hM (Ne.symm n_q_c1) h_c1
          have h_c2 := nw_put hM (Ne.symm n_q_c2) h_c2
          have hS := nw_SP hM o_q hS
          have hN := nw_NB hM hN
          have h_q := nw_self hM
          have hb0 := h_q
          refine lv_aload_n F.1.1 F.1.2.1 dX3_init_2_97 rfl (lv_at hl 1 rfl) ?_
          refine lv_aload_n F.1.1 F.1.2.1 dX3_init_2_98 rfl (lv_at hl 2 rfl) ?_
          refine cg2 F hM (sq_D hS (by omega)) 6 (by decide) q288 (fun x h => h) rfl dX3_init_2_99 ?_
          refine cp2 F hM h_q 6 (by decide) q288 (fun x h => h) rfl rfl rfl (Nat.le_of_ble_eq_true rfl) dX3_init_2_102 (fun H locs hM => ?_)
          have h_u6 := nw_put hM (Ne.symm n_q_u6) h_u6
          have h_u22 := nw_put hM (Ne.symm n_q_u22) h_u22
          have h_s0 := nw_put hM (Ne.symm n_q_s0) h_s0
          have h_c0 := nw_put hM (Ne.symm n_q_c0) h_c0
          have h_c1 := nw_put hM (Ne.symm n_q_c1) h_c1
          have h_c2 := nw_put hM (Ne.symm n_q_c2) h_c2
          have hS := nw_SP hM o_q hS
          have hN := nw_NB hM hN
          have h_q := nw_self hM
          have hb0 := h_q
          exact mr_vret F hQ hM ⟨rfl, drNew.of h1 (f7_inj n_q_u6 n_q_u22 n_q_s0 n_q_c0 n_q_c1 n_q_c2 n_u6_u22 n_u6_s0 n_u6_c0 n_u6_c1 n_u6_c2 n_u22_s0 n_u22_c0 n_u22_c1 n_u22_c2 n_s0_c0 n_s0_c1 n_s0_c2 n_c0_c1 n_c0_c2 n_c1_c2) hN z_u6 z_u22 z_s0 z_c0 z_c1 z_c2 h_q h_u6 h_u22 h_s0 h_c0 h_c1 h_c2⟩ (Nat.le_of_ble_eq_true rfl) (Nat.le_of_ble_eq_true rfl) dX3_init_2_105
        · exact absurd (by decide) c46
set_option maxHeartbeats 4000000 in
theorem cs_X3_copy (l : Launch) {G : mG} {M0 : mM} {ad : Nat → Nat} {n : Nat} {r : Nat → Int32} {f : Nat → UInt32} {dv : Nat → Int32} {d : Nat} (h1 : d < 4) (hS : sAt G ad n r f dv M0) (hst : ∀ j, j < 16 → r (16 + j) = nI 0 ∨ r (16 + j) = nI 1) (hsv : r (56 + d) = nI 0 ∨ r (56 + d) = nI 1) : mMet l yX3_copy (ws_ yX3_copy cX3_copy 1 (some (.object "DiskPacks$Drive"))) (mRm 7 7 28) [.ref (ad (10 + d))] G (pPre M0) (fun _ ρ M1 => ∃ q, ρ = some (.ref q) ∧ drMade G q d r f dv M0 M1) := by
  refine mMet.of (by decide +kernel) (Nat.le_of_ble_eq_true rfl) fun p e s m args below meth c A Q M hM0 F hnm hQ hM ls hl => ?_
  have hM0 : M0 = M := hM0.symm
  subst hM0
  have hl : lv_has ls 1 [(0, .ref (ad (10 + d)))] := hl
  have hN : New M0 M0 := fun a x h => h
  refine cn2 F hM q1048 (Nat.le_of_ble_eq_true rfl) (Nat.le_of_ble_eq_true rfl) dX3_copy_0 (fun w0 H hq_w0 hM => ?_)
  have o_w0 := hS.out hq_w0
  have hS := nw_S hM hq_w0 hS
  have w_w0 := nw_F0 hq_w0 hN
  have z_w0 := hN.none hq_w0
  have hN := nw_N0 hM hq_w0 hN
  have h_w0 := nw_self hM
  refine lv_dup F.1.1 F.1.2.1 dX3_copy_3 rfl ?_
  refine lv_aload_n F.1.1 F.1.2.1 dX3_copy_4 rfl (lv_at hl 0 rfl) ?_
  refine mc_I (As := [_]) F hM (cs_X3_init_2 l h1 hS o_w0 hst hsv h_w0) (cwI 1 F.1.2.2.2.2 (lw_meth q1051) rfl rfl rfl (F.1.2.2.2.2 _ q75) (F.1.2.2.2.2 _ q1049) (F.1.2.2.2.2 _ q1050) rfl (by decide +kernel) (mRm_ok (by decide) (by decide))) rfl rfl hl.1 rfl (Nat.le_of_ble_eq_true rfl) dX3_copy_5 ⟨Nat.le_of_ble_eq_true rfl, Nat.le_of_ble_eq_true rfl⟩ (fun ρ5 M5 H locs hP5 hM hz5 => ?_)
  obtain ⟨rfl, hP5⟩ := hP5
  exact mr_aret F hQ (by first | exact Or.inl ⟨_, rfl⟩ | exact Or.inr ⟨_, rfl⟩) hM ⟨w0, rfl, drMade.of hq_w0 hP5⟩ (Nat.le_of_ble_eq_true rfl) (Nat.le_of_ble_eq_true rfl) dX3_copy_8
