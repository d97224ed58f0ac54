/-! THE SYSTEM: drives made -/
set_option maxHeartbeats 4000000 in
theorem cs_X3_init (l : Launch) {G : mG} {M0 : mM} {r : Nat → Int32} {f : Nat → UInt32} {dv : Nat → Int32} {q d : Nat} (h1 : d < 4) (h48 : r (48 + d) = 0) (h52 : r (52 + d) = 0) (h56 : r (56 + d) = 0) (h60 : r (60 + d) = -1) (hL : sSl r (64 + 6 * d) 6 = fun _ => 0) (hH : ∀ j, j < 4 → sFH r (4 * d + j) = [.int 0, .int 0, .int 0]) (h_q : M0 q = some (eO 2 [.null, .null, .null, .int 0, .int 0, .int 0, .int 0])) : mMet l yX3_init (ws_ yX3_init cX3_init 2 none) (mRm 4 6 21) [.ref q] G (pPre M0) (fun _ ρ M1 => ρ = none ∧ drNew G q d r f dv M0 M1) := by
  refine mMet.of (by decide +kernel) (Nat.le_of_ble_eq_true rfl) fun p e s m args below meth c A Q M hM0 F hnm hQ hM ls hl => ?_
  have hM0 : M0 = M := hM0.symm
  subst hM0
  have hl : lv_has ls 2 [(0, .ref q)] := hl
  have hN : NewB M0 q M0 := fun a x h _ => h
  have hb0 := h_q
  refine lv_aload_n F.1.1 F.1.2.1 dX3_init_0 rfl (lv_at hl 0 rfl) ?_
  refine mr_obj F q153 hl.1 (Nat.le_of_ble_eq_true rfl) (Nat.le_of_ble_eq_true rfl) dX3_init_1 ?_
  refine lv_aload_n F.1.1 F.1.2.1 dX3_init_4 rfl (lv_at hl 0 rfl) ?_
  refine mr_iconst F 3 dX3_init_5 (by decide +kernel) ?_
  refine mr_newQ F hM 5 q154 q155 rfl (Nat.le_of_ble_eq_true rfl) (Nat.le_of_ble_eq_true rfl) (Nat.le_of_ble_eq_true rfl) dX3_init_6 (fun u6 H hq_u6 hM => ?_)
  have n_q_u6 := kp_ne hq_u6 h_q
  have h_q := nw_new hM hq_u6 h_q
  have w_u6 := nw_F hq_u6 hN
  have z_u6 := hN.none hb0 hq_u6
  have hb0 := nw_new hM hq_u6 hb0
  have hN := nw_N hM hq_u6 hN
  have h_u6 := nw_self hM
  refine cf2 F hM h_q 0 (by decide) q273 (fun x h => h) rfl hnm rfl rfl rfl (Nat.le_of_ble_eq_true rfl) dX3_init_9 (fun H locs hM => ?_)
  have h_u6 := nw_put hM (Ne.symm n_q_u6) h_u6
  have hN := nw_NB hM hN
  have h_q := nw_self hM
  have hb0 := h_q
  refine lv_aload_n F.1.1 F.1.2.1 dX3_init_12 rfl (lv_at hl 0 rfl) ?_
  refine lv_iconst (v := -1) F.1.1 F.1.2.1 dX3_init_13 (by decide +kernel) ?_
  refine cp2 F hM h_q 6 (by decide) q288 (fun x h => h) rfl rfl rfl (Nat.le_of_ble_eq_true rfl) dX3_init_14 (fun H locs hM => ?_)
  have h_u6 := nw_put hM (Ne.symm n_q_u6) h_u6
  have hN := nw_NB hM hN
  have h_q := nw_self hM
  have hb0 := h_q
  refine lv_aload_n F.1.1 F.1.2.1 dX3_init_17 rfl (lv_at hl 0 rfl) ?_
  refine mr_bipush F 6 dX3_init_18 (by decide +kernel) ?_
  refine mr_newi F.1.1 F.1.2.1 F.1.2.2.2.2 q186 F.2.1 hM F.2.2.2.2.1 (Nat.le_of_ble_eq_true rfl) (Nat.le_of_ble_eq_true rfl) (Nat.le_of_ble_eq_true rfl) dX3_init_20 (fun u20 H hq_u20 _ hM => ?_)
  have n_q_u20 := kp_ne hq_u20 h_q
  have n_u6_u20 := kp_ne hq_u20 h_u6
  have h_q := nw_new hM hq_u20 h_q
  have h_u6 := nw_new hM hq_u20 h_u6
  have w_u20 := nw_F hq_u20 hN
  have z_u20 := hN.none hb0 hq_u20
  have hb0 := nw_new hM hq_u20 hb0
  have hN := nw_N hM hq_u20 hN
  have h_u20 := nw_self hM
  refine cf2 F hM h_q 2 (by decide) q277 (fun x h => h) rfl hnm rfl rfl rfl (Nat.le_of_ble_eq_true rfl) dX3_init_22 (fun H locs hM => ?_)
  have h_u6 := nw_put hM (Ne.symm n_q_u6) h_u6
  have h_u20 := nw_put hM (Ne.symm n_q_u20) h_u20
  have hN := nw_NB hM hN
  have h_q := nw_self hM
  have hb0 := h_q
  refine lv_aload_n F.1.1 F.1.2.1 dX3_init_25 rfl (lv_at hl 0 rfl) ?_
  refine cn3 F hM q156 (Nat.le_of_ble_eq_true rfl) (Nat.le_of_ble_eq_true rfl) dX3_init_26 (fun s0 H hq_s0 hM => ?_)
  have n_q_s0 := kp_ne hq_s0 h_q
  have n_u6_s0 := kp_ne hq_s0 h_u6
  have n_u20_s0 := kp_ne hq_s0 h_u20
  have h_q := nw_new hM hq_s0 h_q
  have h_u6 := nw_new hM hq_s0 h_u6
  have h_u20 := nw_new hM hq_s0 h_u20
  have w_s0 := nw_F hq_s0 hN
  have z_s0 := hN.none hb0 hq_s0
  have hb0 := nw_new hM hq_s0 hb0
  have hN := nw_N hM hq_s0 hN
  have h_s0 := nw_self hM
  refine lv_dup F.1.1 F.1.2.1 dX3_init_29 rfl ?_
  refine mc_INv (As := []) F hM (cs_X5_init l ) ⟨va_cnB 0 F.1.2.2.2.2 (lw_meth q160) rfl rfl rfl (mN_w F q158 rfl) (F.1.2.2.2.2 _ q77) (by decide +kernel) (mRm_ok (by decide) (by decide)), rfl, F.1.2.2.2.2 _ q159⟩ rfl rfl hl.1 rfl (Nat.le_of_ble_eq_true rfl) dX3_init_30 ⟨Nat.le_of_ble_eq_true rfl, Nat.le_of_ble_eq_true rfl⟩ (fun H locs hM => ?_)
  refine cf2 F hM h_q 1 (by decide) q274 (fun x h => h) rfl hnm rfl rfl rfl (Nat.le_of_ble_eq_true rfl) dX3_init_33 (fun H locs hM => ?_)
  have h_u6 := nw_put hM (Ne.symm n_q_u6) h_u6
  have h_u20 := nw_put hM (Ne.symm n_q_u20) h_u20
  have h_s0 := nw_put hM (Ne.symm n_q_s0) h_s0
  have hN := nw_NB hM hN
  have h_q := nw_self hM
  have hb0 := h_q
  refine mr_iconst F 0 dX3_init_36 (by decide +kernel) ?_
  refine lv_istore_n (lv' := [(1, _), (0, _)]) F.1.1 F.1.2.1 dX3_init_37 rfl hl (by decide) rfl (fun ls hl => ?_)
  refine lv_iload_n F.1.1 F.1.2.1 dX3_init_38 rfl (lv_at hl 0 rfl) ?_
  refine mr_iconst F 3 dX3_init_39 (by decide +kernel) ?_
  refine mr_icmp_geN F (tgt := 65) dX3_init_40 (by decide) (by omega) (by omega) (fun c40 => ?_) (fun c40 => ?_)
  · exact absurd c40 (by decide)
  · refine lv_aload_n F.1.1 F.1.2.1 dX3_init_43 rfl (lv_at hl 1 rfl) ?_
    refine cg2 F hM h_q 0 (by decide) q273 (fun x h => h) rfl dX3_init_44 ?_
    refine lv_iload_n F.1.1 F.1.2.1 dX3_init_47 rfl (lv_at hl 0 rfl) ?_
    refine cn4 F hM q154 (Nat.le_of_ble_eq_true rfl) (Nat.le_of_ble_eq_true rfl) dX3_init_48 (fun c0 H hq_c0 hM => ?_)
    have n_q_c0 := kp_ne hq_c0 h_q
    have n_u6_c0 := kp_ne hq_c0 h_u6
    have n_u20_c0 := kp_ne hq_c0 h_u20
    have n_s0_c0 := kp_ne hq_c0 h_s0
    have h_q := nw_new hM hq_c0 h_q
    have h_u6 := nw_new hM hq_c0 h_u6
    have h_u20 := nw_new hM hq_c0 h_u20
    have h_s0 := nw_new hM hq_c0 h_s0
    have w_c0 := nw_F hq_c0 hN
    have z_c0 := hN.none hb0 hq_c0
    have hb0 := nw_new hM hq_c0 hb0
    have hN := nw_N hM hq_c0 hN
    have h_c0 := nw_self hM
    refine lv_dup F.1.1 F.1.2.1 dX3_init_51 rfl ?_
    refine mc_INv (As := []) F hM (cs_X6_init l ) ⟨va_cnB 0 F.1.2.2.2.2 (lw_meth q190) rfl rfl rfl (mN_w F q188 rfl) (F.1.2.2.2.2 _ q78) (by decide +kernel) (mRm_ok (by decide) (by decide)), rfl, F.1.2.2.2.2 _ q189⟩ rfl rfl hl.1 rfl (Nat.le_of_ble_eq_true rfl) dX3_init_52 ⟨Nat.le_of_ble_eq_true rfl, Nat.le_of_ble_eq_true rfl⟩ (fun H locs hM => ?_)
    refine mc_SNW (n := 3) (As := [_, _, _]) F hM (cs_X1_fits_ok l h_u6 h_c0 (by omega)) q198 q196 q197 q70 (by decide +kernel) (mRm_ok (by decide) (by decide)) rfl rfl hl.1 rfl (Nat.le_of_ble_eq_true rfl) dX3_init_55 ⟨Nat.le_of_ble_eq_true rfl, Nat.le_of_ble_eq_true rfl⟩ (fun H locs hM => ?_)
    have h_q := nw_put hM n_q_u6 h_q
    have h_u20 := nw_put hM (Ne.symm n_u6_u20) h_u20
    have h_s0 := nw_put hM (Ne.symm n_u6_s0) h_s0
    have h_c0 := nw_put hM (Ne.symm n_u6_c0) h_c0
    have hN := nw_NP hM w_u6 hN
    have hb0 := nw_put hM n_q_u6 hb0
    have h_u6 := nw_self hM
    refine lv_pop F.1.1 F.1.2.1 dX3_init_58 rfl ?_
    refine lv_iinc (lv' := [(1, _), (0, _)]) F.1.1 F.1.2.1 dX3_init_59 hl (k := 0) rfl (nK_add _ 1) (by decide) rfl (fun ls hl => ?_)
    refine lv_goto (tgt := 38) F.1.1 F.1.2.1 dX3_init_62 (by decide) ?_
    refine lv_iload_n F.1.1 F.1.2.1 dX3_init_38 rfl (lv_at hl 0 rfl) ?_
    refine mr_iconst F 3 dX3_init_39 (by decide +kernel) ?_
    refine mr_icmp_geN F (tgt := 65) dX3_init_40 (by decide) (by omega) (by omega) (fun c40 => ?_) (fun c40 => ?_)
    · exact absurd c40 (by decide)
    · refine lv_aload_n F.1.1 F.1.2.1 dX3_init_43 rfl (lv_at hl 1 rfl) ?_
      refine cg2 F hM h_q 0 (by decide) q273 (fun x h => h) rfl dX3_init_44 ?_
      refine lv_iload_n F.1.1 F.1.2.1 dX3_init_47 rfl (lv_at hl 0 rfl) ?_
      refine cn4 F hM q154 (Nat.le_of_ble_eq_true rfl) (Nat.le_of_ble_eq_true rfl) dX3_init_48 (fun c1 H hq_c1 hM => ?_)
      have n_q_c1 := kp_ne hq_c1 h_q
      have n_u6_c1 := kp_ne hq_c1 h_u6
      have n_u20_c1 := kp_ne hq_c1 h_u20
      have n_s0_c1 := kp_ne hq_c1 h_s0
      have n_c0_c1 := kp_ne hq_c1 h_c0
      have h_q := nw_new hM hq_c1 h_q
      have h_u6 := nw_new hM hq_c1 h_u6
      have h_u20 := nw_new hM hq_c1 h_u20
      have h_s0 := nw_new hM hq_c1 h_s0
      have h_c0 := nw_new hM hq_c1 h_c0
      have w_c1 := nw_F hq_c1 hN
      have z_c1 := hN.none hb0 hq_c1
      have hb0 := nw_new hM hq_c1 hb0
      have hN := nw_N hM hq_c1 hN
      have h_c1 := nw_self hM
      refine lv_dup F.1.1 F.1.2.1 dX3_init_51 rfl ?_
      refine mc_INv (As := []) F hM (cs_X6_init l ) ⟨va_cnB 0 F.1.2.2.2.2 (lw_meth q190) rfl rfl rfl (mN_w F q188 rfl) (F.1.2.2.2.2 _ q78) (by decide +kernel) (mRm_ok (by decide) (by decide)), rfl, F.1.2.2.2.2 _ q189⟩ rfl rfl hl.1 rfl (Nat.le_of_ble_eq_true rfl) dX3_init_52 ⟨Nat.le_of_ble_eq_true rfl, Nat.le_of_ble_eq_true rfl⟩ (fun H locs hM => ?_)
      refine mc_SNW (n := 3) (As := [_, _, _]) F hM (cs_X1_fits_ok l h_u6 h_c1 (by omega)) q198 q196 q197 q70 (by decide +kernel) (mRm_ok (by decide) (by decide)) rfl rfl hl.1 rfl (Nat.le_of_ble_eq_true rfl) dX3_init_55 ⟨Nat.le_of_ble_eq_true rfl, Nat.le_of_ble_eq_true rfl⟩ (fun H locs hM => ?_)
      have h_q := nw_put hM n_q_u6 h_q
      have h_u20 := nw_put hM (Ne.symm n_u6_u20) h_u20
      have h_s0 := nw_put hM (Ne.symm n_u6_s0) h_s0
      have h_c0 := nw_put hM (Ne.symm n_u6_c0) h_c0
      have h_c1 := nw_put hM (Ne.symm n_u6_c1) h_c1
      have hN := nw_NP hM w_u6 hN
      have hb0 := nw_put hM n_q_u6 hb0
      have h_u6 := nw_self hM
      refine lv_pop F.1.1 F.1.2.1 dX3_init_58 rfl ?_
      refine lv_iinc (lv' := [(1, _), (0, _)]) F.1.1 F.1.2.1 dX3_init_59 hl (k := 0) rfl (nK_add _ 1) (by decide) rfl (fun ls hl => ?_)
      refine lv_goto (tgt := 38) F.1.1 F.1.2.1 dX3_init_62 (by decide) ?_
      refine lv_iload_n F.1.1 F.1.2.1 dX3_init_38 rfl (lv_at hl 0 rfl) ?_
      refine mr_iconst F 3 dX3_init_39 (by decide +kernel) ?_
      refine mr_icmp_geN F (tgt := 65) dX3_init_40 (by decide) (by omega) (by omega) (fun c40 => ?_) (fun c40 => ?_)
      · exact absurd c40 (by decide)
      · refine lv_aload_n F.1.1 F.1.2.1 dX3_init_43 rfl (lv_at hl 1 rfl) ?_
        refine cg2 F hM h_q 0 (by decide) q273 (fun x h => h) rfl dX3_init_44 ?_
        refine lv_iload_n F.1.1 F.1.2.1 dX3_init_47 rfl (lv_at hl 0 rfl) ?_
        refine cn4 F hM q154 (Nat.le_of_ble_eq_true rfl) (Nat.le_of_ble_eq_true rfl) dX3_init_48 (fun c2 H hq_c2 hM => ?_)
        have n_q_c2 := kp_ne hq_c2 h_q
        have n_u6_c2 := kp_ne hq_c2 h_u6
        have n_u20_c2 := kp_ne hq_c2 h_u20
        have n_s0_c2 := kp_ne hq_c2 h_s0
        have n_c0_c2 := kp_ne hq_c2 h_c0
        have n_c1_c2 := kp_ne hq_c2 h_c1
        have h_q := nw_new hM hq_c2 h_q
        have h_u6 := nw_new hM hq_c2 h_u6
        have h_u20 := nw_new hM hq_c2 h_u20
        have h_s0 := nw_new hM hq_c2 h_s0
        have h_c0 := nw_new hM hq_c2 h_c0
        have h_c1 := nw_new hM hq_c2 h_c1
        have w_c2 := nw_F hq_c2 hN
        have z_c2 := hN.none hb0 hq_c2
        have hb0 := nw_new hM hq_c2 hb0
        have hN := nw_N hM hq_c2 hN
        have h_c2 := nw_self hM
        refine lv_dup F.1.1 F.1.2.1 dX3_init_51 rfl ?_
        refine mc_INv (As := []) F hM (cs_X6_init l ) ⟨va_cnB 0 F.1.2.2.2.2 (lw_meth q190) rfl rfl rfl (mN_w F q188 rfl) (F.1.2.2.2.2 _ q78) (by decide +kernel) (mRm_ok (by decide) (by decide)), rfl, F.1.2.2.2.2 _ q189⟩ rfl rfl hl.1 rfl (Nat.le_of_ble_eq_true rfl) dX3_init_52 ⟨Nat.le_of_ble_eq_true rfl, Nat.le_of_ble_eq_true rfl⟩ (fun H locs hM => ?_)
        refine mc_SNW (n := 3) (As := [_, _, _]) F hM (cs_X1_fits_ok l h_u6 h_c2 (by omega)) q198 q196 q197 q70 (by decide +kernel) (mRm_ok (by decide) (by decide)) rfl rfl hl.1 rfl (Nat.le_of_ble_eq_true rfl) dX3_init_55 ⟨Nat.le_of_ble_eq_true rfl, Nat.le_of_ble_eq_true rfl⟩ (fun H locs hM => ?_)
        have h_q := nw_put hM n_q_u6 h_q
        have h_u20 := nw_put hM (Ne.symm n_u6_u20) h_u20
        have h_s0 := nw_put hM (Ne.symm n_u6_s0) h_s0
        have h_c0 := nw_put hM (Ne.symm n_u6_c0) h_c0
        have h_c1 := nw_put hM (Ne.symm n_u6_c1) h_c1
        have h_c2 := nw_put hM (Ne.symm n_u6_c2) h_c2
        have hN := nw_NP hM w_u6 hN
        have hb0 := nw_put hM n_q_u6 hb0
        have h_u6 := nw_self hM
        refine lv_pop F.1.1 F.1.2.1 dX3_init_58 rfl ?_
        refine lv_iinc (lv' := [(1, _), (0, _)]) F.1.1 F.1.2.1 dX3_init_59 hl (k := 0) rfl (nK_add _ 1) (by decide) rfl (fun ls hl => ?_)
        refine lv_goto (tgt := 38) F.1.1 F.1.2.1 dX3_init_62 (by decide) ?_
        refine lv_iload_n F.1.1 F.1.2.1 dX3_init_38 rfl (lv_at hl 0 rfl) ?_
        refine mr_iconst F 3 dX3_init_39 (by decide +kernel) ?_
        refine mr_icmp_geN F (tgt := 65) dX3_init_40 (by decide) (by omega) (by omega) (fun c40 => ?_) (fun c40 => ?_)
        · exact mr_vret F hQ hM ⟨rfl, drNew.of h1 (f7_inj n_q_u6 n_q_u20 n_q_s0 n_q_c0 n_q_c1 n_q_c2 n_u6_u20 n_u6_s0 n_u6_c0 n_u6_c1 n_u6_c2 n_u20_s0 n_u20_c0 n_u20_c1 n_u20_c2 n_s0_c0 n_s0_c1 n_s0_c2 n_c0_c1 n_c0_c2 n_c1_c2) hN z_u6 z_u20 z_s0 z_c0 z_c1 z_c2 (h_q.trans (by rw [h48, h52, h56, h60]; rfl)) h_u6 (h_u20.trans (by rw [hL])) (h_s0.trans (by rw [hH 3 (by omega)])) (h_c0.trans (by rw [hH 0 (by omega)])) (h_c1.trans (by rw [hH 1 (by omega)])) (h_c2.trans (by rw [hH 2 (by omega)]))⟩ (Nat.le_of_ble_eq_true rfl) (Nat.le_of_ble_eq_true rfl) dX3_init_65
        · exact absurd (by decide) c40
