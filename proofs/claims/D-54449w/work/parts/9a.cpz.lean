/-! THE SYSTEM: a State copied -/
set_option maxHeartbeats 4000000 in
theorem cs_X2_init_2 (l : Launch) {G : mG} {M0 : mM} {ad : Nat → Nat} {n : Nat} {r : Nat → Int32} {f : Nat → UInt32} {dv : Nat → Int32} {q : Nat} (hn : n ≤ 6) (hd : sAd n ad) (hS : sAt G ad n r f dv M0) (o_q : ∀ i, sL n i → ad i ≠ q) (hst : ∀ j, j < 16 → r (16 + j) = nI 0 ∨ r (16 + j) = nI 1) (hsv : ∀ d, d < 4 → (r (56 + d) = nI 0 ∨ r (56 + d) = nI 1)) (hsc : ∀ j, j < 18 → r (96 + j) = nI 0 ∨ r (96 + j) = nI 1) (h_q : M0 q = some (eO 1 [.null, .null, .null, .null, .int 0, .int 0, .int 0])) : mMet l yX2_init_2 (ws_ yX2_init_2 cX2_init_2 4 none) (mRm 8 122 2457) [.ref q, .ref (ad 0)] G (pPre M0) (fun _ ρ M1 => ρ = none ∧ ∃ ae, stHas G q n r f dv ae M0 M1) := by
  refine mMet.of (by decide +kernel) (Nat.le_of_ble_eq_true rfl) fun p e s m args below meth c A Q M hM0 F hnm hQ hM ls hl => ?_
  have hM0 : M0 = M := hM0.symm
  subst hM0
  have hl : lv_has ls 4 [(0, .ref q), (1, .ref (ad 0))] := hl
  have hN : NewB M0 q M0 := fun a x h _ => h
  have hb0 := h_q
  have hS9 := hS
  refine lv_aload_n F.1.1 F.1.2.1 dX2_init_2_0 rfl (lv_at hl 0 rfl) ?_
  refine mr_obj F q120 hl.1 (Nat.le_of_ble_eq_true rfl) (Nat.le_of_ble_eq_true rfl) dX2_init_2_1 ?_
  refine lv_aload_n F.1.1 F.1.2.1 dX2_init_2_4 rfl (lv_at hl 0 rfl) ?_
  refine mr_iconst F 4 dX2_init_2_5 (by decide +kernel) ?_
  refine mr_newQ F hM 6 q121 q122 rfl (Nat.le_of_ble_eq_true rfl) (Nat.le_of_ble_eq_true rfl) (Nat.le_of_ble_eq_true rfl) dX2_init_2_6 (fun u6 H hq_u6 hM => ?_)
  have n_q_u6 := kp_ne hq_u6 h_q
  have h_q := nw_new hM hq_u6 h_q
  have o_u6 := hS.out hq_u6
  have hS := nw_S hM hq_u6 hS
  have w_u6 := nw_F hq_u6 hN
  have z_u6 := hN.none hb0 hq_u6
  have hb0 := nw_new hM hq_u6 hb0
  have hN := nw_N hM hq_u6 hN
  have h_u6 := nw_self hM
  refine cf1 F hM h_q 0 (by decide) q306 (fun x h => h) rfl hnm rfl rfl rfl (Nat.le_of_ble_eq_true rfl) dX2_init_2_9 (fun H locs hM => ?_)
  have h_u6 := nw_put hM (Ne.symm n_q_u6) h_u6
  have hS := nw_SP hM o_q hS
  have hN := nw_NB hM hN
  have h_q := nw_self hM
  have hb0 := h_q
  refine lv_aload_n F.1.1 F.1.2.1 dX2_init_2_12 rfl (lv_at hl 0 rfl) ?_
  refine cn9 F hM q123 (Nat.le_of_ble_eq_true rfl) (Nat.le_of_ble_eq_true rfl) dX2_init_2_13 (fun u13 H hq_u13 hM => ?_)
  have n_q_u13 := kp_ne hq_u13 h_q
  have n_u6_u13 := kp_ne hq_u13 h_u6
  have h_q := nw_new hM hq_u13 h_q
  have h_u6 := nw_new hM hq_u13 h_u6
  have o_u13 := hS.out hq_u13
  have hS := nw_S hM hq_u13 hS
  have w_u13 := nw_F hq_u13 hN
  have z_u13 := hN.none hb0 hq_u13
  have hb0 := nw_new hM hq_u13 hb0
  have hN := nw_N hM hq_u13 hN
  have h_u13 := nw_self hM
  refine lv_dup F.1.1 F.1.2.1 dX2_init_2_16 rfl ?_
  refine mc_I (As := []) F hM (cs_J2_init l (by omega)) (cwI 0 F.1.2.2.2.2 (lw_meth q127) rfl rfl rfl (F.1.2.2.2.2 _ q74) (F.1.2.2.2.2 _ q125) (F.1.2.2.2.2 _ q126) rfl (by decide +kernel) (mRm_ok (by decide) (by decide))) rfl rfl hl.1 rfl (Nat.le_of_ble_eq_true rfl) dX2_init_2_17 ⟨Nat.le_of_ble_eq_true rfl, Nat.le_of_ble_eq_true rfl⟩ (fun ρ17 M17 H locs hP17 hM hz17 => ?_)
  obtain ⟨rfl, hNB, hc_u13⟩ := hP17
  have h_q := hNB _ _ h_q n_q_u13
  have h_u6 := hNB _ _ h_u6 n_u6_u13
  have hb0 := h_q
  have hN : NewB M0 q _ := fun a x h hb => hNB _ _ (hN a x h hb) (w_u13 a x h hb)
  have h_u13 := hc_u13
  have hS := nw_SN hS o_u13 hNB
  refine cf1 F hM h_q 1 (by decide) q308 (fun x h => h) rfl hnm rfl rfl rfl (Nat.le_of_ble_eq_true rfl) dX2_init_2_20 (fun H locs hM => ?_)
  have h_u6 := nw_put hM (Ne.symm n_q_u6) h_u6
  have h_u13 := nw_put hM (Ne.symm n_q_u13) h_u13
  have hS := nw_SP hM o_q hS
  have hN := nw_NB hM hN
  have h_q := nw_self hM
  have hb0 := h_q
  refine lv_aload_n F.1.1 F.1.2.1 dX2_init_2_23 rfl (lv_at hl 0 rfl) ?_
  refine mr_iconst F 4 dX2_init_2_24 (by decide +kernel) ?_
  refine cp1 F hM h_q 4 (by decide) q314 (fun x h => h) rfl rfl rfl (Nat.le_of_ble_eq_true rfl) dX2_init_2_25 (fun H locs hM => ?_)
  have h_u6 := nw_put hM (Ne.symm n_q_u6) h_u6
  have h_u13 := nw_put hM (Ne.symm n_q_u13) h_u13
  have hS := nw_SP hM o_q hS
  have hN := nw_NB hM hN
  have h_q := nw_self hM
  have hb0 := h_q
  refine lv_aload_n F.1.1 F.1.2.1 dX2_init_2_28 rfl (lv_at hl 0 rfl) ?_
  refine lv_aload_n F.1.1 F.1.2.1 dX2_init_2_29 rfl (lv_at hl 1 rfl) ?_
  refine cg1 F hM (sq_0 hS) 2 (by decide) q310 (fun x h => h) rfl dX2_init_2_30 ?_
  refine mr_cloneI F hM q1039 (sq_4 hS) hl.1 (Nat.le_of_ble_eq_true rfl) (Nat.le_of_ble_eq_true rfl) (Nat.le_of_ble_eq_true rfl) (Nat.le_of_ble_eq_true rfl) dX2_init_2_33 (fun u33 H hq_u33 hM => ?_)
  have n_q_u33 := kp_ne hq_u33 h_q
  have n_u6_u33 := kp_ne hq_u33 h_u6
  have n_u13_u33 := kp_ne hq_u33 h_u13
  have h_q := nw_new hM hq_u33 h_q
  have h_u6 := nw_new hM hq_u33 h_u6
  have h_u13 := nw_new hM hq_u33 h_u13
  have o_u33 := hS.out hq_u33
  have hS := nw_S hM hq_u33 hS
  have w_u33 := nw_F hq_u33 hN
  have z_u33 := hN.none hb0 hq_u33
  have hb0 := nw_new hM hq_u33 hb0
  have hN := nw_N hM hq_u33 hN
  have h_u33 := nw_self hM
  refine mr_castAI F hM q1043 h_u33 dX2_init_2_36 ?_
  refine cf1 F hM h_q 2 (by decide) q310 (fun x h => h) rfl hnm rfl rfl rfl (Nat.le_of_ble_eq_true rfl) dX2_init_2_39 (fun H locs hM => ?_)
  have h_u6 := nw_put hM (Ne.symm n_q_u6) h_u6
  have h_u13 := nw_put hM (Ne.symm n_q_u13) h_u13
  have h_u33 := nw_put hM (Ne.symm n_q_u33) h_u33
  have hS := nw_SP hM o_q hS
  have hN := nw_NB hM hN
  have h_q := nw_self hM
  have hb0 := h_q
  refine lv_aload_n F.1.1 F.1.2.1 dX2_init_2_42 rfl (lv_at hl 0 rfl) ?_
  refine lv_aload_n F.1.1 F.1.2.1 dX2_init_2_43 rfl (lv_at hl 1 rfl) ?_
  refine cg1 F hM (sq_0 hS) 3 (by decide) q312 (fun x h => h) rfl dX2_init_2_44 ?_
  refine mr_cloneI F hM q1039 (sq_5 hS) hl.1 (Nat.le_of_ble_eq_true rfl) (Nat.le_of_ble_eq_true rfl) (Nat.le_of_ble_eq_true rfl) (Nat.le_of_ble_eq_true rfl) dX2_init_2_47 (fun u47 H hq_u47 hM => ?_)
  have n_q_u47 := kp_ne hq_u47 h_q
  have n_u6_u47 := kp_ne hq_u47 h_u6
  have n_u13_u47 := kp_ne hq_u47 h_u13
  have n_u33_u47 := kp_ne hq_u47 h_u33
  have h_q := nw_new hM hq_u47 h_q
  have h_u6 := nw_new hM hq_u47 h_u6
  have h_u13 := nw_new hM hq_u47 h_u13
  have h_u33 := nw_new hM hq_u47 h_u33
  have o_u47 := hS.out hq_u47
  have hS := nw_S hM hq_u47 hS
  have w_u47 := nw_F hq_u47 hN
  have z_u47 := hN.none hb0 hq_u47
  have hb0 := nw_new hM hq_u47 hb0
  have hN := nw_N hM hq_u47 hN
  have h_u47 := nw_self hM
  refine mr_castAI F hM q1043 h_u47 dX2_init_2_50 ?_
  refine cf1 F hM h_q 3 (by decide) q312 (fun x h => h) rfl hnm rfl rfl rfl (Nat.le_of_ble_eq_true rfl) dX2_init_2_53 (fun H locs hM => ?_)
  have h_u6 := nw_put hM (Ne.symm n_q_u6) h_u6
  have h_u13 := nw_put hM (Ne.symm n_q_u13) h_u13
  have h_u33 := nw_put hM (Ne.symm n_q_u33) h_u33
  have h_u47 := nw_put hM (Ne.symm n_q_u47) h_u47
  have hS := nw_SP hM o_q hS
  have hN := nw_NB hM hN
  have h_q := nw_self hM
  have hb0 := h_q
  refine lv_aload_n F.1.1 F.1.2.1 dX2_init_2_56 rfl (lv_at hl 0 rfl) ?_
  refine lv_aload_n F.1.1 F.1.2.1 dX2_init_2_57 rfl (lv_at hl 1 rfl) ?_
  refine cg1 F hM (sq_0 hS) 4 (by decide) q314 (fun x h => h) rfl dX2_init_2_58 ?_
  refine cp1 F hM h_q 4 (by decide) q314 (fun x h => h) rfl rfl rfl (Nat.le_of_ble_eq_true rfl) dX2_init_2_61 (fun H locs hM => ?_)
  have h_u6 := nw_put hM (Ne.symm n_q_u6) h_u6
  have h_u13 := nw_put hM (Ne.symm n_q_u13) h_u13
  have h_u33 := nw_put hM (Ne.symm n_q_u33) h_u33
  have h_u47 := nw_put hM (Ne.symm n_q_u47) h_u47
  have hS := nw_SP hM o_q hS
  have hN := nw_NB hM hN
  have h_q := nw_self hM
  have hb0 := h_q
  refine lv_aload_n F.1.1 F.1.2.1 dX2_init_2_64 rfl (lv_at hl 0 rfl) ?_
  refine lv_aload_n F.1.1 F.1.2.1 dX2_init_2_65 rfl (lv_at hl 1 rfl) ?_
  refine cg1 F hM (sq_0 hS) 5 (by decide) q316 (fun x h => h) rfl dX2_init_2_66 ?_
  refine cp1 F hM h_q 5 (by decide) q316 (fun x h => h) rfl rfl rfl (Nat.le_of_ble_eq_true rfl) dX2_init_2_69 (fun H locs hM => ?_)
  have h_u6 := nw_put hM (Ne.symm n_q_u6) h_u6
  have h_u13 := nw_put hM (Ne.symm n_q_u13) h_u13
  have h_u33 := nw_put hM (Ne.symm n_q_u33) h_u33
  have h_u47 := nw_put hM (Ne.symm n_q_u47) h_u47
  have hS := nw_SP hM o_q hS
  have hN := nw_NB hM hN
  have h_q := nw_self hM
  have hb0 := h_q
  refine lv_aload_n F.1.1 F.1.2.1 dX2_init_2_72 rfl (lv_at hl 0 rfl) ?_
  refine lv_aload_n F.1.1 F.1.2.1 dX2_init_2_73 rfl (lv_at hl 1 rfl) ?_
  refine cg1 F hM (sq_0 hS) 6 (by decide) q318 (fun x h => h) rfl dX2_init_2_74 ?_
  refine cp1 F hM h_q 6 (by decide) q318 (fun x h => h) rfl rfl rfl (Nat.le_of_ble_eq_true rfl) dX2_init_2_77 (fun H locs hM => ?_)
  have h_u6 := nw_put hM (Ne.symm n_q_u6) h_u6
  have h_u13 := nw_put hM (Ne.symm n_q_u13) h_u13
  have h_u33 := nw_put hM (Ne.symm n_q_u33) h_u33
  have h_u47 := nw_put hM (Ne.symm n_q_u47) h_u47
  have hS := nw_SP hM o_q hS
  have hN := nw_NB hM hN
  have h_q := nw_self hM
  have hb0 := h_q
  refine mr_iconst F 0 dX2_init_2_80 (by decide +kernel) ?_
  refine lv_istore_n (lv' := [(2, _), (0, _), (1, _)]) F.1.1 F.1.2.1 dX2_init_2_81 rfl hl (by decide) rfl (fun ls hl => ?_)
  have lp : ∀ j i : Nat, i + j = 4 → ∀ (Mx : mM) (ae : Nat → Nat) (H : Heap) (locs : List Loc), mWd G A s.heap Mx H locs → NewB M0 q Mx → Mx q = some (eO 1 [.ref u6, .ref u13, .ref u33, .ref u47, .int (r 88), .int (r 114), .int (r 115)]) → Mx u6 = some (eQ (G.2.1 6) 4 (sSa ae 10 i)) → stPart G q u6 i r f dv ae M0 Mx → ae 2 = u13 → ae 4 = u33 → ae 5 = u47 → ∀ ls : Array Slot, lv_has ls 4 [(2, .int (nI i)), (0, .ref q), (1, .ref (ad 0))] → W p l e (mRm 8 122 2457) s m args below meth c H locs (4 + 7 * i) (17 + 28 * i) Q (F0 m 82 ls []) := by
    intro j
    induction j with
    | zero =>
      intro i hi Mx ae H locs hM hN h_q h_u6 hp e2 e4 e5 ls hl
      obtain rfl : i = 4 := by omega
      have hS := nw_SN hS9 o_q hN
      obtain ⟨ae, hh⟩ := stHas.start (stNew.of hN hp (by rw [e2, e4, e5]; exact h_q) h_u6)
      refine lv_iload_n F.1.1 F.1.2.1 dX2_init_2_82 rfl (lv_at hl 0 rfl) ?_
      refine mr_iconst F 4 dX2_init_2_83 (by decide +kernel) ?_
      refine mr_icmp_geN F (tgt := 108) dX2_init_2_84 (by decide) (by omega) (by omega) (fun c84 => ?_) (fun c84 => ?_)
      · refine lv_aload_n F.1.1 F.1.2.1 dX2_init_2_108 rfl (lv_at hl 2 rfl) ?_
        refine cg1 F hM (sq_0 hS) 1 (by decide) q308 (fun x h => h) rfl dX2_init_2_109 ?_
        refine mc_Fa (As := []) F hM (cq_J2_size l hd hn hS) (va_cwF 0 F.1.2.2.2.2 (lw_F q815 q408 q410 q74 q412) rfl rfl rfl (mFw F (by decide) q411 q409 q407) (by decide +kernel) (mRm_ok (by decide) (by decide))) (sq_2 hS) rfl rfl (F.2.1.1 9 _ rfl).2 rfl rfl hl.1 rfl (Nat.le_of_ble_eq_true rfl) dX2_init_2_112 ⟨Nat.le_of_ble_eq_true rfl, Nat.le_of_ble_eq_true rfl⟩ (fun H locs hM => ?_)
        refine lv_istore_n (lv' := [(2, _), (0, _), (1, _)]) F.1.1 F.1.2.1 dX2_init_2_117 rfl hl (by decide) rfl (fun ls hl => ?_)
        refine mr_iconst F 0 dX2_init_2_118 (by decide +kernel) ?_
        refine lv_istore_n (lv' := [(3, _), (2, _), (0, _), (1, _)]) F.1.1 F.1.2.1 dX2_init_2_119 rfl hl (by decide) rfl (fun ls hl => ?_)
        have lq : ∀ j k : Nat, k + j = n → ∀ (Mx : mM) (ae : Nat → Nat) (H : Heap) (locs : List Loc), mWd G A s.heap Mx H locs → stHas G q k r f dv ae M0 Mx → ∀ ls : Array Slot, lv_has ls 4 [(3, .int (nI k)), (2, .int (nI n)), (0, .ref q), (1, .ref (ad 0))] → W p l e (mRm 8 122 2457) s m args below meth c H locs (32 + 15 * k) (129 + 388 * k) Q (F0 m 120 ls []) := by
          intro j
          induction j with
          | zero =>
            intro k hk Mx ae H locs hM hh ls hl
            obtain rfl : k = n := by omega
            refine lv_iload_n F.1.1 F.1.2.1 dX2_init_2_120 rfl (lv_at hl 0 rfl) ?_
            refine lv_iload_n F.1.1 F.1.2.1 dX2_init_2_121 rfl (lv_at hl 1 rfl) ?_
            refine mr_icmp_geN F (tgt := 157) dX2_init_2_122 (by decide) (by omega) (by omega) (fun c122 => ?_) (fun c122 => ?_)
            · exact mr_vret F hQ hM ⟨rfl, ae, hh⟩ (show 32 + 15 * k ≤ 122 by omega) (show 129 + 388 * k ≤ 2457 by omega) dX2_init_2_157
            · exact absurd c122 (by omega)
          | succ j ih =>
            intro k hk Mx ae H locs hM hh ls hl
            have hh9 := hh
            obtain ⟨a1, a2, a3, a4, a5⟩ := hh9
            have h_q : Mx q = some (eO 1 (sF0 ae r)) := by rw [← a1]; exact sq_0 a5
            have h_lst := sq_2 a5
            have hS := nw_SN hS9 o_q a4
            refine lv_iload_n F.1.1 F.1.2.1 dX2_init_2_120 rfl (lv_at hl 0 rfl) ?_
            refine lv_iload_n F.1.1 F.1.2.1 dX2_init_2_121 rfl (lv_at hl 1 rfl) ?_
            refine mr_icmp_geN F (tgt := 157) dX2_init_2_122 (by decide) (by omega) (by omega) (fun c122 => ?_) (fun c122 => ?_)
            · exact absurd c122 (by omega)
            · refine lv_aload_n F.1.1 F.1.2.1 dX2_init_2_125 rfl (lv_at hl 2 rfl) ?_
              refine cg1 F hM h_q 1 (by decide) q308 (fun x h => h) rfl dX2_init_2_126 ?_
              refine lv_aload_n F.1.1 F.1.2.1 dX2_init_2_129 rfl (lv_at hl 3 rfl) ?_
              refine cg1 F hM (sq_0 hS) 1 (by decide) q308 (fun x h => h) rfl dX2_init_2_130 ?_
              refine lv_iload_n F.1.1 F.1.2.1 dX2_init_2_133 rfl (lv_at hl 0 rfl) ?_
              refine mc_Fa (As := [_]) F hM (cq_J2_get l hd hn (by omega) hS) (va_cwF 1 F.1.2.2.2.2 (lw_F q827 q830 q832 q74 q834) rfl rfl rfl (mFw F (by decide) q833 q831 q407) (by decide +kernel) (mRm_ok (by decide) (by decide))) (sq_2 hS) rfl rfl (F.2.1.1 9 _ rfl).2 rfl rfl hl.1 rfl (Nat.le_of_ble_eq_true rfl) dX2_init_2_134 ⟨(show 32 + 15 * k + 0 ≤ 122 by omega), (show 129 + 388 * k + 0 ≤ 2457 by omega)⟩ (fun H locs hM => ?_)
              refine mr_castS F hM (sq_P hS hn (by omega)) (ci := 6) rfl q843 dX2_init_2_139 ?_
              refine mc_V (As := []) F hM (cs_X8_copy l hn (by omega) hS hsc) (cwV 0 F.1.2.2.2.2 (lw_V q1073 q1074 q1075 q94 q1076) rfl rfl rfl (by decide +kernel) (mRm_ok (by decide) (by decide))) rfl (sq_P hS hn (by omega)) rfl rfl rfl hl.1 rfl (Nat.le_of_ble_eq_true rfl) dX2_init_2_142 ⟨(show 32 + 15 * k + 14 ≤ 122 by omega), (show 129 + 388 * k + 378 ≤ 2457 by omega)⟩ (fun ρ142 M142 H locs hP142 hM hz142 => ?_)
              obtain ⟨x1, rfl, hP⟩ := hP142
              have hPk := hP
              obtain ⟨ap, p1, p2, p3, p4, p5⟩ := hPk
              have hzx : Mx x1 = none := by rw [← p1]; exact p3 _ (by unfold pLs; omega)
              have n2 := kp_ne hzx h_lst
              have h_lst := p4 _ _ h_lst
              have h_x1 : M142 x1 = some (eO 6 (sFP ap r dv k)) := by
                have a := p5 (60 + k) (by unfold pLs; omega)
                rw [p1, sC_P (by omega)] at a
                exact a
              rcases Nat.eq_zero_or_pos k with hz | hz
              · refine mc_F (As := [_]) F hM (cs_J2_add_0 l (h_q := h_lst.trans (by dsimp only [sF2]; rw [if_pos hz, hz])) h_x1 n2) (va_cwF 1 F.1.2.2.2.2 (lw_F q1142 q1145 q1147 q74 q1149) rfl rfl rfl (mFw F (by decide) q1148 q1146 q407) (by decide +kernel) (mRm_ok (by decide) (by decide))) rfl h_lst rfl rfl (F.2.1.1 9 _ rfl).2 rfl hl.1 rfl (Nat.le_of_ble_eq_true rfl) dX2_init_2_145 ⟨(show 32 + 15 * k + 14 + 1 ≤ 122 by omega), (show 129 + 388 * k + 378 + 10 ≤ 2457 by omega)⟩ (fun ρ145 M145 H locs hP145 hM hz145 => ?_)
                obtain ⟨u, rfl, hzu, rfl⟩ := hP145
                refine lv_pop F.1.1 F.1.2.1 dX2_init_2_150 rfl ?_
                refine lv_iinc (lv' := [(3, _), (2, _), (0, _), (1, _)]) F.1.1 F.1.2.1 dX2_init_2_151 hl (k := 0) rfl (nK_add _ 1) (by decide) rfl (fun ls hl => ?_)
                refine lv_goto (tgt := 120) F.1.1 F.1.2.1 dX2_init_2_154 (by decide) ?_
                subst hz
                rw [nK_add] at hM
                obtain ⟨ae2, hh2⟩ := stHas.step (by omega) hh hP (e3 := u) (fun w => absurd rfl w) (fun _ => hzu) rfl
                have g := ih (0 + 1) (by omega) _ ae2 _ _ hM hh2 _ (lv_sub hl [0, 1, 2, 3] rfl)
                rw [show 32 + 15 * (0 + 1) = 32 + 15 * 0 + 14 + 1 by omega, show 129 + 388 * (0 + 1) = 129 + 388 * 0 + 378 + 10 by omega] at g
                exact g
              · refine mc_Fa (As := [_]) F hM (cs_J2_add_n l (h_lst.trans (by dsimp only [sF2]; rw [if_neg (by omega)])) h_x1 n2 (p4 _ _ (sq_3 a5 hz)) (fun e => absurd (a2 _ _ (by unfold sL; omega) (by unfold sL; omega) e) (by omega)) (Ne.symm (kp_ne hzx (sq_3 a5 hz))) (by omega)) (va_cwF 1 F.1.2.2.2.2 (lw_F q1142 q1145 q1147 q74 q1149) rfl rfl rfl (mFw F (by decide) q1148 q1146 q407) (by decide +kernel) (mRm_ok (by decide) (by decide))) h_lst rfl rfl (F.2.1.1 9 _ rfl).2 rfl rfl hl.1 rfl (Nat.le_of_ble_eq_true rfl) dX2_init_2_145 ⟨(show 32 + 15 * k + 14 + 1 ≤ 122 by omega), (show 129 + 388 * k + 378 + 10 ≤ 2457 by omega)⟩ (fun H locs hM => ?_)
                refine lv_pop F.1.1 F.1.2.1 dX2_init_2_150 rfl ?_
                refine lv_iinc (lv' := [(3, _), (2, _), (0, _), (1, _)]) F.1.1 F.1.2.1 dX2_init_2_151 hl (k := 0) rfl (nK_add _ 1) (by decide) rfl (fun ls hl => ?_)
                refine lv_goto (tgt := 120) F.1.1 F.1.2.1 dX2_init_2_154 (by decide) ?_
                rw [nK_add] at hM
                obtain ⟨ae2, hh2⟩ := stHas.step (by omega) hh hP (e3 := ae 3) (fun _ => rfl) (fun w => absurd w (by omega)) rfl
                have g := ih (k + 1) (by omega) _ ae2 _ _ hM hh2 _ (lv_sub hl [0, 1, 2, 3] rfl)
                rw [show 32 + 15 * (k + 1) = 32 + 15 * k + 14 + 1 by omega, show 129 + 388 * (k + 1) = 129 + 388 * k + 378 + 10 by omega] at g
                exact g
        exact lq n 0 (by omega) _ _ _ _ hM hh _ (lv_sub hl [0, 1, 2, 3] rfl)
      · exact absurd c84 (by omega)
    | succ j ih =>
      intro i hi Mx ae H locs hM hN h_q h_u6 hp e2 e4 e5 ls hl
      have hN9 := hN
      have h_q9 := h_q
      have h_u69 := h_u6
      have hb0 := h_q
      have hS := nw_SN hS9 o_q hN
      refine lv_iload_n F.1.1 F.1.2.1 dX2_init_2_82 rfl (lv_at hl 0 rfl) ?_
      refine mr_iconst F 4 dX2_init_2_83 (by decide +kernel) ?_
      refine mr_icmp_geN F (tgt := 108) dX2_init_2_84 (by decide) (by omega) (by omega) (fun c84 => ?_) (fun c84 => ?_)
      · exact absurd c84 (by omega)
      · refine lv_aload_n F.1.1 F.1.2.1 dX2_init_2_87 rfl (lv_at hl 1 rfl) ?_
        refine cg1 F hM h_q 0 (by decide) q306 (fun x h => h) rfl dX2_init_2_88 ?_
        refine lv_iload_n F.1.1 F.1.2.1 dX2_init_2_91 rfl (lv_at hl 0 rfl) ?_
        refine lv_aload_n F.1.1 F.1.2.1 dX2_init_2_92 rfl (lv_at hl 2 rfl) ?_
        refine cg1 F hM (sq_0 hS) 0 (by decide) q306 (fun x h => h) rfl dX2_init_2_93 ?_
        refine lv_iload_n F.1.1 F.1.2.1 dX2_init_2_96 rfl (lv_at hl 0 rfl) ?_
        refine mr_aald F.1.1 F.1.2.1 F.2.1 hM 6 (sq_1 hS) rfl (by omega) (by omega) (sSa_rf (by omega) rfl) dX2_init_2_97 ?_
        refine mc_V (As := []) F hM (cs_X3_copy l (by omega) hS hst (hsv i (by omega))) (cwV 0 F.1.2.2.2.2 (lw_V q1044 q1045 q1046 q75 q1047) rfl rfl rfl (by decide +kernel) (mRm_ok (by decide) (by decide))) rfl (sq_D hS (by omega)) rfl rfl rfl hl.1 rfl (Nat.le_of_ble_eq_true rfl) dX2_init_2_98 ⟨(show 4 + 7 * i + 7 ≤ 122 by omega), (show 17 + 28 * i + 28 ≤ 2457 by omega)⟩ (fun ρ98 M98 H locs hP98 hM hz98 => ?_)
        obtain ⟨x1, rfl, hsu⟩ := hP98
        obtain ⟨fsx, hx1, hNx⟩ := drMade.cell (by omega) hsu
        refine mr_aast F.1.1 F.1.2.1 F.2.1 hM 6 2 (hNx _ _ h_u69) rfl hx1 rfl (by omega) (by omega) dX2_init_2_101 (fun H locs hM => ?_)
        obtain ⟨ad2, hp2, he2, hk2⟩ := stStep (by omega) hN9 h_q9 h_u69 hp hsu
        have h_q2 := nw_put hM n_q_u6 (hNx _ _ h_q9)
        have h_u62 := (nw_self hM).trans (by rw [he2])
        have hN2 : NewB M0 q _ := fun a x h hb => nw_put hM (w_u6 a x h hb) (hNx _ _ (hN9 a x h hb))
        refine lv_iinc (lv' := [(2, _), (0, _), (1, _)]) F.1.1 F.1.2.1 dX2_init_2_102 hl (k := 0) rfl (nK_add _ 1) (by decide) rfl (fun ls hl => ?_)
        refine lv_goto (tgt := 82) F.1.1 F.1.2.1 dX2_init_2_105 (by decide) ?_
        have hh := ih (i + 1) (by omega) _ ad2 _ _ hM hN2 h_q2 h_u62 hp2 ((hk2 2 (by omega)).trans e2) ((hk2 4 (by omega)).trans e4) ((hk2 5 (by omega)).trans e5) _ (lv_sub hl [0, 1, 2] rfl)
        rw [show 4 + 7 * (i + 1) = 4 + 7 * i + 7 by omega, show 17 + 28 * (i + 1) = 17 + 28 * i + 28 by omega] at hh
        exact hh
  exact lp 4 0 rfl _ _ _ _ hM hN h_q h_u6 (stPart.start n_q_u6 n_q_u13 n_q_u33 n_q_u47 n_u6_u13 n_u6_u33 n_u6_u47 n_u13_u33 n_u13_u47 n_u33_u47 z_u6 z_u13 z_u33 z_u47 h_u13 h_u33 h_u47) rfl rfl rfl _ hl
