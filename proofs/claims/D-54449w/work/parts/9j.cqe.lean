/-! THE TEXT READER: signs, numbers -/
set_option maxHeartbeats 4000000 in
theorem cs_X10_next (l : Launch) {G : mG} {M0 : mM} {rd x q v eb cap nb pl mn : Nat} {z : Int32} {t b : Nat → Int32} {w : Bool} {vs vn vq : Value} (h_rd : M0 rd = some (eO 8 [.int (nI pl), .int (rW w), .ref eb, .int (nI mn), .ref x])) (h_x : M0 x = some (eO 0 [vs, vn, vq, .ref q])) (h_q : M0 q = some (eO 11 [.ref v, .int (nI 0), .int z, .int (nI nb)])) (h_v : M0 v = some (eI (G.2.1 3) cap t)) (n_q_v : q ≠ v) (h2 : nb ≤ cap) (h3 : cap ≤ 100) (hpl : pl ≤ 100) (hb : rTx b t nb) : mMet l yX10_next (ws_ yX10_next cX10_next 1 (some .char)) (mRm 5 0 0) [.ref rd] G (pPre M0) (pPost M0 (some (.int (rSg b nb pl)))) := by
  refine mMet.of (by decide +kernel) (Nat.le_of_ble_eq_true rfl) fun p e s m args below meth c A Q M hM0 F hnm hQ hM ls hl => ?_
  have hM0 : M0 = M := hM0.symm
  subst hM0
  have hl : lv_has ls 1 [(0, .ref rd)] := hl
  refine lv_aload_n F.1.1 F.1.2.1 dX10_next_0 rfl (lv_at hl 0 rfl) ?_
  refine cg8 F hM h_rd 0 (by decide) q738 (fun x h => h) rfl dX10_next_1 ?_
  refine lv_aload_n F.1.1 F.1.2.1 dX10_next_4 rfl (lv_at hl 0 rfl) ?_
  refine cg8 F hM h_rd 4 (by decide) q743 (fun x h => h) rfl dX10_next_5 ?_
  refine cgN0 F hM h_x 3 (by decide) q388 (fun x h => h) rfl dX10_next_8 ?_
  refine mc_Va (As := []) F hM (cs_J10_length l h_q) (cwV 0 F.1.2.2.2.2 (lw_V q767 q441 q442 q86 q443) rfl rfl rfl (by decide +kernel) (mRm_ok (by decide) (by decide))) h_q rfl rfl rfl rfl hl.1 rfl (Nat.le_of_ble_eq_true rfl) dX10_next_11 ⟨Nat.le_of_ble_eq_true rfl, Nat.le_of_ble_eq_true rfl⟩ (fun H locs hM => ?_)
  refine mr_icmp_geN F (tgt := 34) dX10_next_14 (by decide) (by omega) (by omega) (fun c14 => ?_) (fun c14 => ?_)
  · have hE : rSg b nb pl = nI 32 := if_neg (by omega)
    refine mr_bipush F 32 dX10_next_34 (by decide +kernel) ?_
    exact mr_zret F hQ (by decide) hM ⟨by rw [hE], rfl⟩ (Nat.le_of_ble_eq_true rfl) (Nat.le_of_ble_eq_true rfl) dX10_next_36
  · obtain ⟨c0, hc1, hc2, hj, hbj⟩ := hb pl (by omega)
    have hE : rSg b nb pl = nI c0 := (if_pos (by omega)).trans hbj
    refine lv_aload_n F.1.1 F.1.2.1 dX10_next_17 rfl (lv_at hl 0 rfl) ?_
    refine cg8 F hM h_rd 4 (by decide) q743 (fun x h => h) rfl dX10_next_18 ?_
    refine cgN0 F hM h_x 3 (by decide) q388 (fun x h => h) rfl dX10_next_21 ?_
    refine lv_aload_n F.1.1 F.1.2.1 dX10_next_24 rfl (lv_at hl 0 rfl) ?_
    refine cg8 F hM h_rd 0 (by decide) q738 (fun x h => h) rfl dX10_next_25 ?_
    refine mc_Va (As := [_]) F hM (cs_J10_charAt l h_q h_v n_q_v (by omega) h2 h3 hj (by omega)) (cwV 1 F.1.2.2.2.2 (lw_V q768 q769 q770 q86 q771) rfl rfl rfl (by decide +kernel) (mRm_ok (by decide) (by decide))) h_q rfl rfl rfl rfl hl.1 rfl (Nat.le_of_ble_eq_true rfl) dX10_next_28 ⟨Nat.le_of_ble_eq_true rfl, Nat.le_of_ble_eq_true rfl⟩ (fun H locs hM => ?_)
    refine lv_goto (tgt := 36) F.1.1 F.1.2.1 dX10_next_31 (by decide) ?_
    exact mr_zret F hQ (sb_all c0 (by omega)).2.2.2.2.2 hM ⟨by rw [hE], rfl⟩ (Nat.le_of_ble_eq_true rfl) (Nat.le_of_ble_eq_true rfl) dX10_next_36
set_option maxHeartbeats 4000000 in
theorem cs_X10_sign (l : Launch) {G : mG} {M0 : mM} {rd x q v eb cap nb pl mn : Nat} {z : Int32} {t b : Nat → Int32} {w : Bool} {vs vn vq : Value} {k : Nat} (h_rd : M0 rd = some (eO 8 [.int (nI pl), .int (rW w), .ref eb, .int (nI mn), .ref x])) (h_x : M0 x = some (eO 0 [vs, vn, vq, .ref q])) (h_q : M0 q = some (eO 11 [.ref v, .int (nI 0), .int z, .int (nI nb)])) (h_v : M0 v = some (eI (G.2.1 3) cap t)) (n_q_v : q ≠ v) (n_rd_x : rd ≠ x) (n_rd_q : rd ≠ q) (n_rd_v : rd ≠ v) (h2 : nb ≤ cap) (h3 : cap ≤ 100) (hpl : pl ≤ 100) (hb : rTx b t nb) (h5 : 33 ≤ k) (h6 : k < 127) : mMet l yX10_sign (ws_ yX10_sign cX10_sign 2 none) (mRm 6 0 0) [.ref rd, .int (nI k)] G (pPre M0) (pPost (mup M0 rd (eO 8 [.int (nI (tAdv (tNd b nb (nI k) (nI k) pl w) pl)), .int (rW (tNd b nb (nI k) (nI k) pl w)), .ref eb, .int (nI mn), .ref x])) none) := by
  refine mMet.of (by decide +kernel) (Nat.le_of_ble_eq_true rfl) fun p e s m args below meth c A Q M hM0 F hnm hQ hM ls hl => ?_
  have hM0 : M0 = M := hM0.symm
  subst hM0
  have hl : lv_has ls 2 [(0, .ref rd), (1, .int (nI k))] := hl
  refine lv_aload_n F.1.1 F.1.2.1 dX10_sign_0 rfl (lv_at hl 0 rfl) ?_
  refine lv_dup F.1.1 F.1.2.1 dX10_sign_1 rfl ?_
  refine cg8 F hM h_rd 1 (by decide) q740 (fun x h => h) rfl dX10_sign_2 ?_
  refine lv_aload_n F.1.1 F.1.2.1 dX10_sign_5 rfl (lv_at hl 0 rfl) ?_
  refine mc_Va (As := []) F hM (cs_X10_next l h_rd h_x h_q h_v n_q_v h2 h3 hpl hb) (cwV 0 F.1.2.2.2.2 (lw_V q763 q765 qs2 q106 q766) rfl rfl rfl (by decide +kernel) (mRm_ok (by decide) (by decide))) h_rd rfl rfl rfl rfl hl.1 rfl (Nat.le_of_ble_eq_true rfl) dX10_sign_6 ⟨Nat.le_of_ble_eq_true rfl, Nat.le_of_ble_eq_true rfl⟩ (fun H locs hM => ?_)
  refine lv_iload_n F.1.1 F.1.2.1 dX10_sign_9 rfl (lv_at hl 1 rfl) ?_
  refine lv_icmp_eq (tgt := 17) F.1.1 F.1.2.1 dX10_sign_10 (by decide) (fun c10 => ?_) (fun c10 => ?_)
  · have hw := rS_t (w := w) hb h5 h6 c10
    refine mr_iconst F 0 dX10_sign_17 (by decide +kernel) ?_
    refine lv_ior F.1.1 F.1.2.1 dX10_sign_18 ?_
    rw [rW_o0]
    refine cp8 F hM h_rd 1 (by decide) q740 (fun x h => h) rfl (nZ_rW _) (fZ_rW _) (Nat.le_of_ble_eq_true rfl) dX10_sign_19 (fun H locs hM => ?_)
    have h_x := nw_put hM (Ne.symm n_rd_x) h_x
    have h_q := nw_put hM (Ne.symm n_rd_q) h_q
    have h_v := nw_put hM (Ne.symm n_rd_v) h_v
    have h_rd := nw_self hM
    refine lv_aload_n F.1.1 F.1.2.1 dX10_sign_22 rfl (lv_at hl 0 rfl) ?_
    refine lv_dup F.1.1 F.1.2.1 dX10_sign_23 rfl ?_
    refine cg8 F hM h_rd 0 (by decide) q738 (fun x h => h) rfl dX10_sign_24 ?_
    refine lv_aload_n F.1.1 F.1.2.1 dX10_sign_27 rfl (lv_at hl 0 rfl) ?_
    refine cg8 F hM h_rd 1 (by decide) q740 (fun x h => h) rfl dX10_sign_28 ?_
    refine lv_if_eq (tgt := 38) F.1.1 F.1.2.1 dX10_sign_31 (by decide) (fun c31 => ?_) (fun c31 => ?_)
    · have hw2 := rW_0 c31
      refine mr_iconst F 1 dX10_sign_38 (by decide +kernel) ?_
      refine mr_iaddN F dX10_sign_39 ?_
      refine cp8 F hM h_rd 0 (by decide) q738 (fun x h => h) rfl rfl rfl (Nat.le_of_ble_eq_true rfl) dX10_sign_40 (fun H locs hM => ?_)
      have h_x := nw_put hM (Ne.symm n_rd_x) h_x
      have h_q := nw_put hM (Ne.symm n_rd_q) h_q
      have h_v := nw_put hM (Ne.symm n_rd_v) h_v
      have h_rd := nw_self hM
      exact mr_vret F hQ hM ⟨rfl, by rw [mup_mup, hw, hw2]; rfl⟩ (Nat.le_of_ble_eq_true rfl) (Nat.le_of_ble_eq_true rfl) dX10_sign_43
    · have hw2 := rW_1 c31
      refine mr_iconst F 0 dX10_sign_34 (by decide +kernel) ?_
      refine lv_goto (tgt := 39) F.1.1 F.1.2.1 dX10_sign_35 (by decide) ?_
      refine mr_iaddN F dX10_sign_39 ?_
      refine cp8 F hM h_rd 0 (by decide) q738 (fun x h => h) rfl rfl rfl (Nat.le_of_ble_eq_true rfl) dX10_sign_40 (fun H locs hM => ?_)
      have h_x := nw_put hM (Ne.symm n_rd_x) h_x
      have h_q := nw_put hM (Ne.symm n_rd_q) h_q
      have h_v := nw_put hM (Ne.symm n_rd_v) h_v
      have h_rd := nw_self hM
      exact mr_vret F hQ hM ⟨rfl, by rw [mup_mup, hw, hw2]; rfl⟩ (Nat.le_of_ble_eq_true rfl) (Nat.le_of_ble_eq_true rfl) dX10_sign_43
  · have hw := rS_f (w := w) hb h5 h6 c10
    refine mr_iconst F 1 dX10_sign_13 (by decide +kernel) ?_
    refine lv_goto (tgt := 18) F.1.1 F.1.2.1 dX10_sign_14 (by decide) ?_
    refine lv_ior F.1.1 F.1.2.1 dX10_sign_18 ?_
    rw [rW_o1]
    refine cp8 F hM h_rd 1 (by decide) q740 (fun x h => h) rfl (nZ_rW _) (fZ_rW _) (Nat.le_of_ble_eq_true rfl) dX10_sign_19 (fun H locs hM => ?_)
    have h_x := nw_put hM (Ne.symm n_rd_x) h_x
    have h_q := nw_put hM (Ne.symm n_rd_q) h_q
    have h_v := nw_put hM (Ne.symm n_rd_v) h_v
    have h_rd := nw_self hM
    refine lv_aload_n F.1.1 F.1.2.1 dX10_sign_22 rfl (lv_at hl 0 rfl) ?_
    refine lv_dup F.1.1 F.1.2.1 dX10_sign_23 rfl ?_
    refine cg8 F hM h_rd 0 (by decide) q738 (fun x h => h) rfl dX10_sign_24 ?_
    refine lv_aload_n F.1.1 F.1.2.1 dX10_sign_27 rfl (lv_at hl 0 rfl) ?_
    refine cg8 F hM h_rd 1 (by decide) q740 (fun x h => h) rfl dX10_sign_28 ?_
    refine lv_if_eq (tgt := 38) F.1.1 F.1.2.1 dX10_sign_31 (by decide) (fun c31 => ?_) (fun c31 => ?_)
    · exact absurd c31 (by decide)
    · refine mr_iconst F 0 dX10_sign_34 (by decide +kernel) ?_
      refine lv_goto (tgt := 39) F.1.1 F.1.2.1 dX10_sign_35 (by decide) ?_
      refine mr_iaddN F dX10_sign_39 ?_
      refine cp8 F hM h_rd 0 (by decide) q738 (fun x h => h) rfl rfl rfl (Nat.le_of_ble_eq_true rfl) dX10_sign_40 (fun H locs hM => ?_)
      have h_x := nw_put hM (Ne.symm n_rd_x) h_x
      have h_q := nw_put hM (Ne.symm n_rd_q) h_q
      have h_v := nw_put hM (Ne.symm n_rd_v) h_v
      have h_rd := nw_self hM
      exact mr_vret F hQ hM ⟨rfl, by rw [mup_mup, hw]; rfl⟩ (Nat.le_of_ble_eq_true rfl) (Nat.le_of_ble_eq_true rfl) dX10_sign_43
set_option maxHeartbeats 4000000 in
theorem cs_X10_number (l : Launch) {G : mG} {M0 : mM} {rd x q v eb cap nb pl mn : Nat} {z : Int32} {t b : Nat → Int32} {w : Bool} {vs vn vq : Value} {g : Nat} (h_rd : M0 rd = some (eO 8 [.int (nI pl), .int (rW w), .ref eb, .int (nI mn), .ref x])) (h_x : M0 x = some (eO 0 [vs, vn, vq, .ref q])) (h_q : M0 q = some (eO 11 [.ref v, .int (nI 0), .int z, .int (nI nb)])) (h_v : M0 v = some (eI (G.2.1 3) cap t)) (n_q_v : q ≠ v) (n_rd_x : rd ≠ x) (n_rd_q : rd ≠ q) (n_rd_v : rd ≠ v) (h2 : nb ≤ cap) (h3 : cap ≤ 100) (hpl : pl ≤ 100) (hb : rTx b t nb) (h7 : g < 2 ^ 30) (h8 : g < 1000) : mMet l yX10_number (ws_ yX10_number cX10_number 3 (some .int)) (mRm 6 0 0) [.ref rd, .int (nI g)] G (pPre M0) (fun _ ρ M1 => ∃ u : Int32, ρ = some (.int u) ∧ ((tNd b nb (nI 48) (rHi g) pl w) = true → u = (rNum b nb g pl w).2) ∧ M1 = mup M0 rd (eO 8 [.int (nI (rNum b nb g pl w).1), .int (rW (tNd b nb (nI 48) (rHi g) pl w)), .ref eb, .int (nI mn), .ref x])) := by
  refine mMet.of (by decide +kernel) (Nat.le_of_ble_eq_true rfl) fun p e s m args below meth c A Q M hM0 F hnm hQ hM ls hl => ?_
  have hM0 : M0 = M := hM0.symm
  subst hM0
  have hl : lv_has ls 3 [(0, .ref rd), (1, .int (nI g))] := hl
  have h_x0 := h_x
  have h_q0 := h_q
  have h_v0 := h_v
  refine lv_aload_n F.1.1 F.1.2.1 dX10_number_0 rfl (lv_at hl 0 rfl) ?_
  refine mc_Va (As := []) F hM (cs_X10_next l h_rd h_x h_q h_v n_q_v h2 h3 hpl hb) (cwV 0 F.1.2.2.2.2 (lw_V q763 q765 qs2 q106 q766) rfl rfl rfl (by decide +kernel) (mRm_ok (by decide) (by decide))) h_rd rfl rfl rfl rfl hl.1 rfl (Nat.le_of_ble_eq_true rfl) dX10_number_1 ⟨Nat.le_of_ble_eq_true rfl, Nat.le_of_ble_eq_true rfl⟩ (fun H locs hM => ?_)
  refine mr_bipush F 48 dX10_number_4 (by decide +kernel) ?_
  refine lv_isub F.1.1 F.1.2.1 dX10_number_6 ?_
  refine lv_istore_n (lv' := [(2, _), (0, _), (1, _)]) F.1.1 F.1.2.1 dX10_number_7 rfl hl (by decide) rfl (fun ls hl => ?_)
  refine lv_aload_n F.1.1 F.1.2.1 dX10_number_8 rfl (lv_at hl 1 rfl) ?_
  refine lv_dup F.1.1 F.1.2.1 dX10_number_9 rfl ?_
  refine cg8 F hM h_rd 1 (by decide) q740 (fun x h => h) rfl dX10_number_10 ?_
  refine lv_iload_n F.1.1 F.1.2.1 dX10_number_13 rfl (lv_at hl 0 rfl) ?_
  refine lv_if_lt (tgt := 28) F.1.1 F.1.2.1 dX10_number_14 (by decide) (fun c14 => ?_) (fun c14 => ?_)
  · have hw := rN_no (w := w) (g := g) hb (Or.inl c14)
    refine mr_iconst F 1 dX10_number_28 (by decide +kernel) ?_
    refine lv_goto (tgt := 33) F.1.1 F.1.2.1 dX10_number_29 (by decide) ?_
    refine lv_ior F.1.1 F.1.2.1 dX10_number_33 ?_
    rw [rW_o1]
    refine cp8 F hM h_rd 1 (by decide) q740 (fun x h => h) rfl (nZ_rW _) (fZ_rW _) (Nat.le_of_ble_eq_true rfl) dX10_number_34 (fun H locs hM => ?_)
    have h_x := nw_put hM (Ne.symm n_rd_x) h_x
    have h_q := nw_put hM (Ne.symm n_rd_q) h_q
    have h_v := nw_put hM (Ne.symm n_rd_v) h_v
    have h_rd := nw_self hM
    refine lv_aload_n F.1.1 F.1.2.1 dX10_number_37 rfl (lv_at hl 1 rfl) ?_
    refine lv_dup F.1.1 F.1.2.1 dX10_number_38 rfl ?_
    refine cg8 F hM h_rd 0 (by decide) q738 (fun x h => h) rfl dX10_number_39 ?_
    refine lv_aload_n F.1.1 F.1.2.1 dX10_number_42 rfl (lv_at hl 1 rfl) ?_
    refine cg8 F hM h_rd 1 (by decide) q740 (fun x h => h) rfl dX10_number_43 ?_
    refine lv_if_eq (tgt := 53) F.1.1 F.1.2.1 dX10_number_46 (by decide) (fun c46 => ?_) (fun c46 => ?_)
    · exact absurd c46 (by decide)
    · refine mr_iconst F 0 dX10_number_49 (by decide +kernel) ?_
      refine lv_goto (tgt := 54) F.1.1 F.1.2.1 dX10_number_50 (by decide) ?_
      refine mr_iaddN F dX10_number_54 ?_
      refine cp8 F hM h_rd 0 (by decide) q738 (fun x h => h) rfl rfl rfl (Nat.le_of_ble_eq_true rfl) dX10_number_55 (fun H locs hM => ?_)
      have h_x := nw_put hM (Ne.symm n_rd_x) h_x
      have h_q := nw_put hM (Ne.symm n_rd_q) h_q
      have h_v := nw_put hM (Ne.symm n_rd_v) h_v
      have h_rd := nw_self hM
      refine lv_aload_n F.1.1 F.1.2.1 dX10_number_58 rfl (lv_at hl 1 rfl) ?_
      refine cg8 F hM h_rd 1 (by decide) q740 (fun x h => h) rfl dX10_number_59 ?_
      refine lv_if_ne (tgt := 129) F.1.1 F.1.2.1 dX10_number_62 (by decide) (fun c62 => ?_) (fun c62 => ?_)
      · refine lv_iload_n F.1.1 F.1.2.1 dX10_number_129 rfl (lv_at hl 0 rfl) ?_
        exact mr_iret F hQ hM ⟨_, rfl, fun q => (by rw [hw] at q; cases q), by rw [mup_mup, rNum_b hw, hw]; rfl⟩ (Nat.le_of_ble_eq_true rfl) (Nat.le_of_ble_eq_true rfl) dX10_number_130
      · exact absurd c62 (by decide)
  · refine lv_iload_n F.1.1 F.1.2.1 dX10_number_17 rfl (lv_at hl 0 rfl) ?_
    refine mr_bipush F 9 dX10_number_18 (by decide +kernel) ?_
    refine lv_icmp_gt (tgt := 28) F.1.1 F.1.2.1 dX10_number_20 (by decide) (fun c20 => ?_) (fun c20 => ?_)
    · have hw := rN_no (w := w) (g := g) hb (Or.inr (Or.inl c20))
      refine mr_iconst F 1 dX10_number_28 (by decide +kernel) ?_
      refine lv_goto (tgt := 33) F.1.1 F.1.2.1 dX10_number_29 (by decide) ?_
      refine lv_ior F.1.1 F.1.2.1 dX10_number_33 ?_
      rw [rW_o1]
      refine cp8 F hM h_rd 1 (by decide) q740 (fun x h => h) rfl (nZ_rW _) (fZ_rW _) (Nat.le_of_ble_eq_true rfl) dX10_number_34 (fun H locs hM => ?_)
      have h_x := nw_put hM (Ne.symm n_rd_x) h_x
      have h_q := nw_put hM (Ne.symm n_rd_q) h_q
      have h_v := nw_put hM (Ne.symm n_rd_v) h_v
      have h_rd := nw_self hM
      refine lv_aload_n F.1.1 F.1.2.1 dX10_number_37 rfl (lv_at hl 1 rfl) ?_
      refine lv_dup F.1.1 F.1.2.1 dX10_number_38 rfl ?_
      refine cg8 F hM h_rd 0 (by decide) q738 (fun x h => h) rfl dX10_number_39 ?_
      refine lv_aload_n F.1.1 F.1.2.1 dX10_number_42 rfl (lv_at hl 1 rfl) ?_
      refine cg8 F hM h_rd 1 (by decide) q740 (fun x h => h) rfl dX10_number_43 ?_
      refine lv_if_eq (tgt := 53) F.1.1 F.1.2.1 dX10_number_46 (by decide) (fun c46 => ?_) (fun c46 => ?_)
      · exact absurd c46 (by decide)
      · refine mr_iconst F 0 dX10_number_49 (by decide +kernel) ?_
        refine lv_goto (tgt := 54) F.1.1 F.1.2.1 dX10_number_50 (by decide) ?_
        refine mr_iaddN F dX10_number_54 ?_
        refine cp8 F hM h_rd 0 (by decide) q738 (fun x h => h) rfl rfl rfl (Nat.le_of_ble_eq_true rfl) dX10_number_55 (fun H locs hM => ?_)
        have h_x := nw_put hM (Ne.symm n_rd_x) h_x
        have h_q := nw_put hM (Ne.symm n_rd_q) h_q
        have h_v := nw_put hM (Ne.symm n_rd_v) h_v
        have h_rd := nw_self hM
        refine lv_aload_n F.1.1 F.1.2.1 dX10_number_58 rfl (lv_at hl 1 rfl) ?_
        refine cg8 F hM h_rd 1 (by decide) q740 (fun x h => h) rfl dX10_number_59 ?_
        refine lv_if_ne (tgt := 129) F.1.1 F.1.2.1 dX10_number_62 (by decide) (fun c62 => ?_) (fun c62 => ?_)
        · refine lv_iload_n F.1.1 F.1.2.1 dX10_number_129 rfl (lv_at hl 0 rfl) ?_
          exact mr_iret F hQ hM ⟨_, rfl, fun q => (by rw [hw] at q; cases q), by rw [mup_mup, rNum_b hw, hw]; rfl⟩ (Nat.le_of_ble_eq_true rfl) (Nat.le_of_ble_eq_true rfl) dX10_number_130
        · exact absurd c62 (by decide)
    · refine lv_iload_n F.1.1 F.1.2.1 dX10_number_23 rfl (lv_at hl 0 rfl) ?_
      refine lv_iload_n F.1.1 F.1.2.1 dX10_number_24 rfl (lv_at hl 2 rfl) ?_
      refine lv_icmp_le (tgt := 32) F.1.1 F.1.2.1 dX10_number_25 (by decide) (fun c25 => ?_) (fun c25 => ?_)
      · obtain ⟨hw, hlt, hst, d, hd9, hdg, hd⟩ := rN_ok (w := w) hb h7 c14 c20 c25
        refine mr_iconst F 0 dX10_number_32 (by decide +kernel) ?_
        refine lv_ior F.1.1 F.1.2.1 dX10_number_33 ?_
        rw [rW_o0]
        refine cp8 F hM h_rd 1 (by decide) q740 (fun x h => h) rfl (nZ_rW _) (fZ_rW _) (Nat.le_of_ble_eq_true rfl) dX10_number_34 (fun H locs hM => ?_)
        have h_x := nw_put hM (Ne.symm n_rd_x) h_x
        have h_q := nw_put hM (Ne.symm n_rd_q) h_q
        have h_v := nw_put hM (Ne.symm n_rd_v) h_v
        have h_rd := nw_self hM
        refine lv_aload_n F.1.1 F.1.2.1 dX10_number_37 rfl (lv_at hl 1 rfl) ?_
        refine lv_dup F.1.1 F.1.2.1 dX10_number_38 rfl ?_
        refine cg8 F hM h_rd 0 (by decide) q738 (fun x h => h) rfl dX10_number_39 ?_
        refine lv_aload_n F.1.1 F.1.2.1 dX10_number_42 rfl (lv_at hl 1 rfl) ?_
        refine cg8 F hM h_rd 1 (by decide) q740 (fun x h => h) rfl dX10_number_43 ?_
        refine lv_if_eq (tgt := 53) F.1.1 F.1.2.1 dX10_number_46 (by decide) (fun c46 => ?_) (fun c46 => ?_)
        · have hw1 : (tNd b nb (nI 48) (rHi g) pl w) = true := hw.trans (rW_0 c46)
          refine mr_iconst F 1 dX10_number_53 (by decide +kernel) ?_
          refine mr_iaddN F dX10_number_54 ?_
          refine cp8 F hM h_rd 0 (by decide) q738 (fun x h => h) rfl rfl rfl (Nat.le_of_ble_eq_true rfl) dX10_number_55 (fun H locs hM => ?_)
          have h_x := nw_put hM (Ne.symm n_rd_x) h_x
          have h_q := nw_put hM (Ne.symm n_rd_q) h_q
          have h_v := nw_put hM (Ne.symm n_rd_v) h_v
          have h_rd := nw_self hM
          rcases Classical.em (0 < tSg b nb pl - nI 48) with hz | hz
          · have lp : ∀ j sp vn : Nat, sp + j = nb → 0 < vn → vn < 1000 → (rNum b nb g pl w) = tNl b nb g j sp (nI vn) → ∀ (H : Heap) (locs : List Loc), mWd G A s.heap (mup M0 rd (eO 8 [.int (nI sp), .int (rW true), .ref eb, .int (nI mn), .ref x])) H locs → ∀ ls : Array Slot, lv_has ls 3 [(2, .int (nI vn)), (0, .ref rd), (1, .int (nI g))] → W p l e (mRm 6 0 0) s m args below meth c H locs 0 0 Q (F0 m 58 ls []) := by
              intro j
              induction j with
              | zero =>
                intro sp vn hsp h0 h9 hT H locs hM ls hl
                have hT : (rNum b nb g pl w) = (sp, nI vn) := hT
                have h_x := nw_put hM (Ne.symm n_rd_x) h_x0
                have h_q := nw_put hM (Ne.symm n_rd_q) h_q0
                have h_v := nw_put hM (Ne.symm n_rd_v) h_v0
                have h_rd := nw_self hM
                refine lv_aload_n F.1.1 F.1.2.1 dX10_number_58 rfl (lv_at hl 1 rfl) ?_
                refine cg8 F hM h_rd 1 (by decide) q740 (fun x h => h) rfl dX10_number_59 ?_
                refine lv_if_ne (tgt := 129) F.1.1 F.1.2.1 dX10_number_62 (by decide) (fun c62 => ?_) (fun c62 => ?_)
                · exact absurd (by decide) c62
                · refine lv_iload_n F.1.1 F.1.2.1 dX10_number_65 rfl (lv_at hl 0 rfl) ?_
                  refine lv_if_le (tgt := 129) F.1.1 F.1.2.1 dX10_number_66 (by decide) (fun c66 => ?_) (fun c66 => ?_)
                  · exact absurd c66 (nI_nle h0 (by omega))
                  · refine lv_aload_n F.1.1 F.1.2.1 dX10_number_69 rfl (lv_at hl 1 rfl) ?_
                    refine mc_Va (As := []) F hM (cs_X10_next l h_rd h_x h_q h_v n_q_v h2 h3 (by omega) hb) (cwV 0 F.1.2.2.2.2 (lw_V q763 q765 qs2 q106 q766) rfl rfl rfl (by decide +kernel) (mRm_ok (by decide) (by decide))) h_rd rfl rfl rfl rfl hl.1 rfl (Nat.le_of_ble_eq_true rfl) dX10_number_70 ⟨Nat.le_of_ble_eq_true rfl, Nat.le_of_ble_eq_true rfl⟩ (fun H locs hM => ?_)
                    refine mr_bipush F 48 dX10_number_73 (by decide +kernel) ?_
                    refine lv_icmp_lt (tgt := 129) F.1.1 F.1.2.1 dX10_number_75 (by decide) (fun c75 => ?_) (fun c75 => ?_)
                    · refine lv_iload_n F.1.1 F.1.2.1 dX10_number_129 rfl (lv_at hl 0 rfl) ?_
                      exact mr_iret F hQ hM ⟨_, rfl, fun _ => by rw [hT], by rw [hT, hw1]⟩ (Nat.le_of_ble_eq_true rfl) (Nat.le_of_ble_eq_true rfl) dX10_number_130
                    · exact absurd (show rSg b nb sp < nI 48 by rw [show rSg b nb sp = nI 32 from if_neg (by omega)]; decide) c75
              | succ j ih =>
                intro sp vn hsp h0 h9 hT H locs hM ls hl
                have h_x := nw_put hM (Ne.symm n_rd_x) h_x0
                have h_q := nw_put hM (Ne.symm n_rd_q) h_q0
                have h_v := nw_put hM (Ne.symm n_rd_v) h_v0
                have h_rd := nw_self hM
                refine lv_aload_n F.1.1 F.1.2.1 dX10_number_58 rfl (lv_at hl 1 rfl) ?_
                refine cg8 F hM h_rd 1 (by decide) q740 (fun x h => h) rfl dX10_number_59 ?_
                refine lv_if_ne (tgt := 129) F.1.1 F.1.2.1 dX10_number_62 (by decide) (fun c62 => ?_) (fun c62 => ?_)
                · exact absurd (by decide) c62
                · refine lv_iload_n F.1.1 F.1.2.1 dX10_number_65 rfl (lv_at hl 0 rfl) ?_
                  refine lv_if_le (tgt := 129) F.1.1 F.1.2.1 dX10_number_66 (by decide) (fun c66 => ?_) (fun c66 => ?_)
                  · exact absurd c66 (nI_nle h0 (by omega))
                  · refine lv_aload_n F.1.1 F.1.2.1 dX10_number_69 rfl (lv_at hl 1 rfl) ?_
                    refine mc_Va (As := []) F hM (cs_X10_next l h_rd h_x h_q h_v n_q_v h2 h3 (by omega) hb) (cwV 0 F.1.2.2.2.2 (lw_V q763 q765 qs2 q106 q766) rfl rfl rfl (by decide +kernel) (mRm_ok (by decide) (by decide))) h_rd rfl rfl rfl rfl hl.1 rfl (Nat.le_of_ble_eq_true rfl) dX10_number_70 ⟨Nat.le_of_ble_eq_true rfl, Nat.le_of_ble_eq_true rfl⟩ (fun H locs hM => ?_)
                    refine mr_bipush F 48 dX10_number_73 (by decide +kernel) ?_
                    refine lv_icmp_lt (tgt := 129) F.1.1 F.1.2.1 dX10_number_75 (by decide) (fun c75 => ?_) (fun c75 => ?_)
                    · refine lv_iload_n F.1.1 F.1.2.1 dX10_number_129 rfl (lv_at hl 0 rfl) ?_
                      exact mr_iret F hQ hM ⟨_, rfl, fun _ => by rw [hT, rL_no (rL_out hb (Or.inl c75))], by rw [hT, rL_no (rL_out hb (Or.inl c75)), hw1]⟩ (Nat.le_of_ble_eq_true rfl) (Nat.le_of_ble_eq_true rfl) dX10_number_130
                    · refine lv_aload_n F.1.1 F.1.2.1 dX10_number_78 rfl (lv_at hl 1 rfl) ?_
                      refine mc_Va (As := []) F hM (cs_X10_next l h_rd h_x h_q h_v n_q_v h2 h3 (by omega) hb) (cwV 0 F.1.2.2.2.2 (lw_V q763 q765 qs2 q106 q766) rfl rfl rfl (by decide +kernel) (mRm_ok (by decide) (by decide))) h_rd rfl rfl rfl rfl hl.1 rfl (Nat.le_of_ble_eq_true rfl) dX10_number_79 ⟨Nat.le_of_ble_eq_true rfl, Nat.le_of_ble_eq_true rfl⟩ (fun H locs hM => ?_)
                      refine mr_bipush F 57 dX10_number_82 (by decide +kernel) ?_
                      refine lv_icmp_gt (tgt := 129) F.1.1 F.1.2.1 dX10_number_84 (by decide) (fun c84 => ?_) (fun c84 => ?_)
                      · refine lv_iload_n F.1.1 F.1.2.1 dX10_number_129 rfl (lv_at hl 0 rfl) ?_
                        exact mr_iret F hQ hM ⟨_, rfl, fun _ => by rw [hT, rL_no (rL_out hb (Or.inr c84))], by rw [hT, rL_no (rL_out hb (Or.inr c84)), hw1]⟩ (Nat.le_of_ble_eq_true rfl) (Nat.le_of_ble_eq_true rfl) dX10_number_130
                      · obtain ⟨hlt, hst2, hdd, d2, hd29, hd2⟩ := rL_dig hb c75 c84
                        refine mr_bipush F 10 dX10_number_87 (by decide +kernel) ?_
                        refine lv_iload_n F.1.1 F.1.2.1 dX10_number_89 rfl (lv_at hl 0 rfl) ?_
                        refine lv_imul F.1.1 F.1.2.1 dX10_number_90 ?_
                        refine lv_aload_n F.1.1 F.1.2.1 dX10_number_91 rfl (lv_at hl 1 rfl) ?_
                        refine mc_Va (As := []) F hM (cs_X10_next l h_rd h_x h_q h_v n_q_v h2 h3 (by omega) hb) (cwV 0 F.1.2.2.2.2 (lw_V q763 q765 qs2 q106 q766) rfl rfl rfl (by decide +kernel) (mRm_ok (by decide) (by decide))) h_rd rfl rfl rfl rfl hl.1 rfl (Nat.le_of_ble_eq_true rfl) dX10_number_92 ⟨Nat.le_of_ble_eq_true rfl, Nat.le_of_ble_eq_true rfl⟩ (fun H locs hM => ?_)
                        refine lv_iadd F.1.1 F.1.2.1 dX10_number_95 ?_
                        refine mr_bipush F 48 dX10_number_96 (by decide +kernel) ?_
                        refine lv_isub F.1.1 F.1.2.1 dX10_number_98 ?_
                        refine lv_iload_n F.1.1 F.1.2.1 dX10_number_99 rfl (lv_at hl 2 rfl) ?_
                        refine lv_icmp_gt (tgt := 129) F.1.1 F.1.2.1 dX10_number_100 (by decide) (fun c100 => ?_) (fun c100 => ?_)
                        · have c100b : nI g < nI 10 * nI vn + tSg b nb sp - nI 48 := by rw [← hst2]; exact c100
                          refine lv_iload_n F.1.1 F.1.2.1 dX10_number_129 rfl (lv_at hl 0 rfl) ?_
                          exact mr_iret F hQ hM ⟨_, rfl, fun _ => by rw [hT, rL_no (fun q => q.2 c100b)], by rw [hT, rL_no (fun q => q.2 c100b), hw1]⟩ (Nat.le_of_ble_eq_true rfl) (Nat.le_of_ble_eq_true rfl) dX10_number_130
                        · have hval := rL_val h9 hd29 h0
                          have hg2 : 10 * vn + d2 ≤ g := by
                            have q := c100
                            rw [hd2, hval, nK_lt (by omega) (by omega)] at q
                            omega
                          refine mr_bipush F 10 dX10_number_103 (by decide +kernel) ?_
                          refine lv_iload_n F.1.1 F.1.2.1 dX10_number_105 rfl (lv_at hl 0 rfl) ?_
                          refine lv_imul F.1.1 F.1.2.1 dX10_number_106 ?_
                          refine lv_aload_n F.1.1 F.1.2.1 dX10_number_107 rfl (lv_at hl 1 rfl) ?_
                          refine mc_Va (As := []) F hM (cs_X10_next l h_rd h_x h_q h_v n_q_v h2 h3 (by omega) hb) (cwV 0 F.1.2.2.2.2 (lw_V q763 q765 qs2 q106 q766) rfl rfl rfl (by decide +kernel) (mRm_ok (by decide) (by decide))) h_rd rfl rfl rfl rfl hl.1 rfl (Nat.le_of_ble_eq_true rfl) dX10_number_108 ⟨Nat.le_of_ble_eq_true rfl, Nat.le_of_ble_eq_true rfl⟩ (fun H locs hM => ?_)
                          refine lv_iadd F.1.1 F.1.2.1 dX10_number_111 ?_
                          refine mr_bipush F 48 dX10_number_112 (by decide +kernel) ?_
                          refine lv_isub F.1.1 F.1.2.1 dX10_number_114 ?_
                          rw [hd2, hval]
                          refine lv_istore_n (lv' := [(2, _), (0, _), (1, _)]) F.1.1 F.1.2.1 dX10_number_115 rfl hl (by decide) rfl (fun ls hl => ?_)
                          refine lv_aload_n F.1.1 F.1.2.1 dX10_number_116 rfl (lv_at hl 1 rfl) ?_
                          refine lv_dup F.1.1 F.1.2.1 dX10_number_117 rfl ?_
                          refine cg8 F hM h_rd 0 (by decide) q738 (fun x h => h) rfl dX10_number_118 ?_
                          refine mr_iconst F 1 dX10_number_121 (by decide +kernel) ?_
                          refine mr_iaddN F dX10_number_122 ?_
                          refine cp8 F hM h_rd 0 (by decide) q738 (fun x h => h) rfl rfl rfl (Nat.le_of_ble_eq_true rfl) dX10_number_123 (fun H locs hM => ?_)
                          have h_x := nw_put hM (Ne.symm n_rd_x) h_x
                          have h_q := nw_put hM (Ne.symm n_rd_q) h_q
                          have h_v := nw_put hM (Ne.symm n_rd_v) h_v
                          have h_rd := nw_self hM
                          refine lv_goto (tgt := 58) F.1.1 F.1.2.1 dX10_number_126 (by decide) ?_
                          rw [mup_mup] at hM
                          exact ih (sp + 1) (10 * vn + d2) (by omega) (by omega) (by omega) (by rw [hT, rL_go ⟨hdd, fun q => c100 (by rw [hst2]; exact q)⟩, ← hst2, hd2, hval]) _ _ hM _ (lv_sub hl [0, 1, 2] rfl)
            rw [hd] at hl
            have hwt : w = true := rW_0 c46
            rw [mup_mup, hwt] at hM
            exact lp (nb - (pl + 1)) (pl + 1) d (by omega) (Nat.pos_of_ne_zero (fun q => by rw [← hst, hd, q] at hz; exact absurd hz (by decide))) (by omega) (by rw [rNum_l hw1 hz, ← hst, hd]) _ _ hM _ (lv_sub hl [0, 1, 2] rfl)
          · refine lv_aload_n F.1.1 F.1.2.1 dX10_number_58 rfl (lv_at hl 1 rfl) ?_
            refine cg8 F hM h_rd 1 (by decide) q740 (fun x h => h) rfl dX10_number_59 ?_
            refine lv_if_ne (tgt := 129) F.1.1 F.1.2.1 dX10_number_62 (by decide) (fun c62 => ?_) (fun c62 => ?_)
            · exact absurd c46 c62
            · refine lv_iload_n F.1.1 F.1.2.1 dX10_number_65 rfl (lv_at hl 0 rfl) ?_
              refine lv_if_le (tgt := 129) F.1.1 F.1.2.1 dX10_number_66 (by decide) (fun c66 => ?_) (fun c66 => ?_)
              · refine lv_iload_n F.1.1 F.1.2.1 dX10_number_129 rfl (lv_at hl 0 rfl) ?_
                exact mr_iret F hQ hM ⟨_, rfl, fun _ => by rw [rNum_z hw1 hz, hst], by rw [mup_mup, rNum_z hw1 hz, hw1, show w = true from rW_0 c46]; rfl⟩ (Nat.le_of_ble_eq_true rfl) (Nat.le_of_ble_eq_true rfl) dX10_number_130
              · exact absurd (show rSg b nb pl - nI 48 ≤ 0 by rw [hst]; exact Int32.not_lt.mp hz) c66
        · have hw1 : (tNd b nb (nI 48) (rHi g) pl w) = false := hw.trans (rW_1 c46)
          refine mr_iconst F 0 dX10_number_49 (by decide +kernel) ?_
          refine lv_goto (tgt := 54) F.1.1 F.1.2.1 dX10_number_50 (by decide) ?_
          refine mr_iaddN F dX10_number_54 ?_
          refine cp8 F hM h_rd 0 (by decide) q738 (fun x h => h) rfl rfl rfl (Nat.le_of_ble_eq_true rfl) dX10_number_55 (fun H locs hM => ?_)
          have h_x := nw_put hM (Ne.symm n_rd_x) h_x
          have h_q := nw_put hM (Ne.symm n_rd_q) h_q
          have h_v := nw_put hM (Ne.symm n_rd_v) h_v
          have h_rd := nw_self hM
          refine lv_aload_n F.1.1 F.1.2.1 dX10_number_58 rfl (lv_at hl 1 rfl) ?_
          refine cg8 F hM h_rd 1 (by decide) q740 (fun x h => h) rfl dX10_number_59 ?_
          refine lv_if_ne (tgt := 129) F.1.1 F.1.2.1 dX10_number_62 (by decide) (fun c62 => ?_) (fun c62 => ?_)
          · refine lv_iload_n F.1.1 F.1.2.1 dX10_number_129 rfl (lv_at hl 0 rfl) ?_
            exact mr_iret F hQ hM ⟨_, rfl, fun q => (by rw [hw1] at q; cases q), by rw [mup_mup, rNum_b hw1, hw1, show w = false from rW_1 c46]; rfl⟩ (Nat.le_of_ble_eq_true rfl) (Nat.le_of_ble_eq_true rfl) dX10_number_130
          · exact absurd c62 c46
      · have hw := rN_no (w := w) hb (Or.inr (Or.inr ⟨h7, c25⟩))
        refine mr_iconst F 1 dX10_number_28 (by decide +kernel) ?_
        refine lv_goto (tgt := 33) F.1.1 F.1.2.1 dX10_number_29 (by decide) ?_
        refine lv_ior F.1.1 F.1.2.1 dX10_number_33 ?_
        rw [rW_o1]
        refine cp8 F hM h_rd 1 (by decide) q740 (fun x h => h) rfl (nZ_rW _) (fZ_rW _) (Nat.le_of_ble_eq_true rfl) dX10_number_34 (fun H locs hM => ?_)
        have h_x := nw_put hM (Ne.symm n_rd_x) h_x
        have h_q := nw_put hM (Ne.symm n_rd_q) h_q
        have h_v := nw_put hM (Ne.symm n_rd_v) h_v
        have h_rd := nw_self hM
        refine lv_aload_n F.1.1 F.1.2.1 dX10_number_37 rfl (lv_at hl 1 rfl) ?_
        refine lv_dup F.1.1 F.1.2.1 dX10_number_38 rfl ?_
        refine cg8 F hM h_rd 0 (by decide) q738 (fun x h => h) rfl dX10_number_39 ?_
        refine lv_aload_n F.1.1 F.1.2.1 dX10_number_42 rfl (lv_at hl 1 rfl) ?_
        refine cg8 F hM h_rd 1 (by decide) q740 (fun x h => h) rfl dX10_number_43 ?_
        refine lv_if_eq (tgt := 53) F.1.1 F.1.2.1 dX10_number_46 (by decide) (fun c46 => ?_) (fun c46 => ?_)
        · exact absurd c46 (by decide)
        · refine mr_iconst F 0 dX10_number_49 (by decide +kernel) ?_
          refine lv_goto (tgt := 54) F.1.1 F.1.2.1 dX10_number_50 (by decide) ?_
          refine mr_iaddN F dX10_number_54 ?_
          refine cp8 F hM h_rd 0 (by decide) q738 (fun x h => h) rfl rfl rfl (Nat.le_of_ble_eq_true rfl) dX10_number_55 (fun H locs hM => ?_)
          have h_x := nw_put hM (Ne.symm n_rd_x) h_x
          have h_q := nw_put hM (Ne.symm n_rd_q) h_q
          have h_v := nw_put hM (Ne.symm n_rd_v) h_v
          have h_rd := nw_self hM
          refine lv_aload_n F.1.1 F.1.2.1 dX10_number_58 rfl (lv_at hl 1 rfl) ?_
          refine cg8 F hM h_rd 1 (by decide) q740 (fun x h => h) rfl dX10_number_59 ?_
          refine lv_if_ne (tgt := 129) F.1.1 F.1.2.1 dX10_number_62 (by decide) (fun c62 => ?_) (fun c62 => ?_)
          · refine lv_iload_n F.1.1 F.1.2.1 dX10_number_129 rfl (lv_at hl 0 rfl) ?_
            exact mr_iret F hQ hM ⟨_, rfl, fun q => (by rw [hw] at q; cases q), by rw [mup_mup, rNum_b hw, hw]; rfl⟩ (Nat.le_of_ble_eq_true rfl) (Nat.le_of_ble_eq_true rfl) dX10_number_130
          · exact absurd c62 (by decide)
set_option maxHeartbeats 4000000 in
theorem cs_X10_after (l : Launch) {G : mG} {M0 : mM} {rd x q v eb cap nb pl mn : Nat} {z : Int32} {t b : Nat → Int32} {w : Bool} {vs vn vq : Value} {k g : Nat} (h_rd : M0 rd = some (eO 8 [.int (nI pl), .int (rW w), .ref eb, .int (nI mn), .ref x])) (h_x : M0 x = some (eO 0 [vs, vn, vq, .ref q])) (h_q : M0 q = some (eO 11 [.ref v, .int (nI 0), .int z, .int (nI nb)])) (h_v : M0 v = some (eI (G.2.1 3) cap t)) (n_q_v : q ≠ v) (n_rd_x : rd ≠ x) (n_rd_q : rd ≠ q) (n_rd_v : rd ≠ v) (h2 : nb ≤ cap) (h3 : cap ≤ 100) (hpl : pl ≤ 100) (hb : rTx b t nb) (hpl2 : pl < 100) (h5 : 33 ≤ k) (h6 : k < 127) (h7 : g < 1000) : mMet l yX10_after (ws_ yX10_after cX10_after 3 (some .int)) (mRm 7 0 0) [.ref rd, .int (nI k), .int (nI g)] G (pPre M0) (fun _ ρ M1 => ∃ u : Int32, ρ = some (.int u) ∧ ((tNd b nb (nI 48) (rHi g) (tAdv (tNd b nb (nI k) (nI k) pl w) pl) (tNd b nb (nI k) (nI k) pl w)) = true → u = (rNum b nb g (tAdv (tNd b nb (nI k) (nI k) pl w) pl) (tNd b nb (nI k) (nI k) pl w)).2) ∧ M1 = mup M0 rd (eO 8 [.int (nI (rNum b nb g (tAdv (tNd b nb (nI k) (nI k) pl w) pl) (tNd b nb (nI k) (nI k) pl w)).1), .int (rW (tNd b nb (nI 48) (rHi g) (tAdv (tNd b nb (nI k) (nI k) pl w) pl) (tNd b nb (nI k) (nI k) pl w))), .ref eb, .int (nI mn), .ref x])) := by
  refine mMet.of (by decide +kernel) (Nat.le_of_ble_eq_true rfl) fun p e s m args below meth c A Q M hM0 F hnm hQ hM ls hl => ?_
  have hM0 : M0 = M := hM0.symm
  subst hM0
  have hl : lv_has ls 3 [(0, .ref rd), (1, .int (nI k)), (2, .int (nI g))] := hl
  refine lv_aload_n F.1.1 F.1.2.1 dX10_after_0 rfl (lv_at hl 0 rfl) ?_
  refine lv_iload_n F.1.1 F.1.2.1 dX10_after_1 rfl (lv_at hl 1 rfl) ?_
  refine mc_Vv (As := [_]) F hM (cs_X10_sign l h_rd h_x h_q h_v n_q_v n_rd_x n_rd_q n_rd_v h2 h3 hpl hb h5 h6) (cwV 1 F.1.2.2.2.2 (lw_V q795 q797 qs6 q106 q798) rfl rfl rfl (by decide +kernel) (mRm_ok (by decide) (by decide))) h_rd rfl rfl rfl rfl hl.1 rfl (Nat.le_of_ble_eq_true rfl) dX10_after_2 ⟨Nat.le_of_ble_eq_true rfl, Nat.le_of_ble_eq_true rfl⟩ (fun H locs hM => ?_)
  have h_x := nw_put hM (Ne.symm n_rd_x) h_x
  have h_q := nw_put hM (Ne.symm n_rd_q) h_q
  have h_v := nw_put hM (Ne.symm n_rd_v) h_v
  have h_rd := nw_self hM
  refine lv_aload_n F.1.1 F.1.2.1 dX10_after_5 rfl (lv_at hl 0 rfl) ?_
  refine lv_iload_n F.1.1 F.1.2.1 dX10_after_6 rfl (lv_at hl 2 rfl) ?_
  refine mc_V (As := [_]) F hM (cs_X10_number l h_rd h_x h_q h_v n_q_v n_rd_x n_rd_q n_rd_v h2 h3 (by have := tAdv_1 (tNd b nb (nI k) (nI k) pl w) pl; omega) hb (by omega) h7) (cwV 1 F.1.2.2.2.2 (lw_V q783 q785 qs3 q106 q786) rfl rfl rfl (by decide +kernel) (mRm_ok (by decide) (by decide))) rfl h_rd rfl rfl rfl hl.1 rfl (Nat.le_of_ble_eq_true rfl) dX10_after_7 ⟨Nat.le_of_ble_eq_true rfl, Nat.le_of_ble_eq_true rfl⟩ (fun ρ7 M7 H locs hP7 hM hz7 => ?_)
  obtain ⟨u, rfl, hu, rfl⟩ := hP7
  exact mr_iret F hQ hM ⟨u, rfl, hu, mup_mup⟩ (Nat.le_of_ble_eq_true rfl) (Nat.le_of_ble_eq_true rfl) dX10_after_10
