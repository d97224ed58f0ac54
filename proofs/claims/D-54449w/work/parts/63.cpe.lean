/-! THE SYSTEM: writing, reading, turning, striking, mending -/
set_option maxHeartbeats 4000000 in
theorem cs_X2_fly (l : Launch) {G : mG} {ad : Nat → Nat} {n : Nat} {r : Nat → Int32} {f : Nat → UInt32} {dv : Nat → Int32} {M0 : mM} {d h k q0 : Nat} (hd : sAd n ad) (hn : n ≤ 6) (hI : mInv r f) (hp : r (60 + d) = nI k) (hc : r (52 + d) = nI q0) (h1 : d < 4) (h2 : h < 3) (h3 : k < n) (h4 : q0 < 40) : mMet l yX2_fly (ws_ yX2_fly cX2_fly 5 none) (mRm 5 0 0) [.ref (ad 0), .int (nI d), .int (nI h)] G (pPre (sM G ad n r f dv M0)) (pPost (sM G ad n (nRubR r d h k) (nRubF r f d h k q0) dv M0) (none)) := by
  refine mMet.of (by decide +kernel) (Nat.le_of_ble_eq_true rfl) fun p e s m args below meth c A Q M hM0 F hnm hQ hM ls hl => ?_
  have hM0 : M = sM G ad n r f dv M0 := hM0
  subst hM0
  have hl : lv_has ls 5 [(0, .ref (ad 0)), (1, .int (nI d)), (2, .int (nI h))] := hl
  have hk6 : k < 6 := by omega
  have e96 : 96 + (3 * k + h) = 96 + 3 * k + h := by omega
  refine lv_aload_n F.1.1 F.1.2.1 dX2_fly_0 rfl (lv_at hl 0 rfl) ?_
  refine lv_iload_n F.1.1 F.1.2.1 dX2_fly_1 rfl (lv_at hl 1 rfl) ?_
  refine lv_iload_n F.1.1 F.1.2.1 dX2_fly_2 rfl (lv_at hl 2 rfl) ?_
  refine mc_Va (As := [_, _]) F hM (cs_X2_surface l hd hn (by assumption) (by omega) (by omega) (by omega)) (cwV 2 F.1.2.2.2.2 (lw_V q893 q894 q895 q71 q896) rfl rfl rfl (by decide +kernel) (mRm_ok (by decide) (by decide))) (sM_0 hd) rfl rfl rfl rfl hl.1 rfl (Nat.le_of_ble_eq_true rfl) dX2_fly_3 ⟨Nat.le_of_ble_eq_true rfl, Nat.le_of_ble_eq_true rfl⟩ (fun H locs hM => ?_)
  refine lv_astore_n (lv' := [(3, _), (0, _), (1, _), (2, _)]) F.1.1 F.1.2.1 dX2_fly_6 rfl hl (by decide) rfl (fun ls hl => ?_)
  refine lv_aload_n F.1.1 F.1.2.1 dX2_fly_7 rfl (lv_at hl 1 rfl) ?_
  refine cg1 F hM (sM_0 hd) 0 (by decide) q306 (fun x h => h) rfl dX2_fly_8 ?_
  refine lv_iload_n F.1.1 F.1.2.1 dX2_fly_11 rfl (lv_at hl 2 rfl) ?_
  refine sr_ld1 F hd hM (by omega) dX2_fly_12 ?_
  refine lv_iload_n F.1.1 F.1.2.1 dX2_fly_13 rfl (lv_at hl 3 rfl) ?_
  refine mc_Va (As := [_]) F hM (cs_X3_dataHead l hd hn (by omega) (by omega)) (cwV 1 F.1.2.2.2.2 (lw_V q881 q882 q883 q75 q884) rfl rfl rfl (by decide +kernel) (mRm_ok (by decide) (by decide))) (sM_D hd (by omega)) rfl rfl rfl rfl hl.1 rfl (Nat.le_of_ble_eq_true rfl) dX2_fly_14 ⟨Nat.le_of_ble_eq_true rfl, Nat.le_of_ble_eq_true rfl⟩ (fun H locs hM => ?_)
  refine lv_astore (lv' := [(4, _), (3, _), (0, _), (1, _), (2, _)]) F.1.1 F.1.2.1 dX2_fly_17 hl (by decide) rfl (fun ls hl => ?_)
  refine lv_aload F.1.1 F.1.2.1 dX2_fly_19 (lv_at hl 0 rfl) ?_
  refine cg4 F hM (sM_HD hd (by omega) (by omega)) 1 (by decide) q174 (u_same (F.1.2.2.2.2 _ q170)) rfl dX2_fly_21 ?_
  refine lv_if_eq (tgt := 48) F.1.1 F.1.2.1 dX2_fly_24 (by decide) (fun c24 => ?_) (fun c24 => ?_)
  · have hS0 : ¬ r (16 + (4 * d + h)) = nI 1 := by rw [c24]; decide
    have hF : nRubF r f d h k q0 = f := by unfold nRubF; exact if_neg hS0
    refine lv_aload_n F.1.1 F.1.2.1 dX2_fly_48 rfl (lv_at hl 1 rfl) ?_
    refine cg7 F hM (sM_S hd hn (by omega)) 3 (by decide) q1113 (fun x h => h) rfl dX2_fly_49 ?_
    refine lv_if_eq (tgt := 80) F.1.1 F.1.2.1 dX2_fly_52 (by decide) (fun c52 => ?_) (fun c52 => ?_)
    · have hR : nRubR r d h k = r := by unfold nRubR; rw [if_neg hS0, if_neg (by rw [← e96, c52]; decide)]
      exact mr_vret F hQ hM ⟨rfl, by rw [hR, hF]⟩ (Nat.le_of_ble_eq_true rfl) (Nat.le_of_ble_eq_true rfl) dX2_fly_80
    · have hSc : r (96 + 3 * k + h) = nI 1 := by rw [← e96]; exact (hI.2.2.2.2.2.2.2.2.2.1 (3 * k + h) (by omega)).resolve_left c52
      refine lv_aload F.1.1 F.1.2.1 dX2_fly_55 (lv_at hl 0 rfl) ?_
      refine lv_dup F.1.1 F.1.2.1 dX2_fly_57 rfl ?_
      refine cg4 F hM (sM_HD hd (by omega) (by omega)) 2 (by decide) q176 (u_same (F.1.2.2.2.2 _ q177)) rfl dX2_fly_58 ?_
      refine mr_iconst F 1 dX2_fly_61 (by decide +kernel) ?_
      refine lv_iadd F.1.1 F.1.2.1 dX2_fly_62 ?_
      refine cp4 F hM (sM_HD hd (by omega) (by omega)) 2 (by decide) q176 (u_same (F.1.2.2.2.2 _ q177)) rfl rfl rfl (Nat.le_of_ble_eq_true rfl) dX2_fly_63 (fun H locs hM => ?_)
      rw [su_HD2 hd hn (by omega) (by omega) rfl] at hM
      refine lv_aload F.1.1 F.1.2.1 dX2_fly_66 (lv_at hl 0 rfl) ?_
      refine cg4 F hM (sM_HD hd (by omega) (by omega)) 2 (by decide) q176 (u_same (F.1.2.2.2.2 _ q177)) (congrArg (fun z => some (Value.int z)) (va_up_self _ _ _)) dX2_fly_68 ?_
      refine mr_iconst F 3 dX2_fly_71 (by decide +kernel) ?_
      refine lv_icmp_ne (tgt := 80) F.1.1 F.1.2.1 dX2_fly_72 (by decide) (fun c72 => ?_) (fun c72 => ?_)
      · have hR : nRubR r d h k = va_up r (32 + (4 * d + h)) (r (32 + (4 * d + h)) + nI 1) := by unfold nRubR; rw [if_neg hS0, if_pos hSc, if_neg c72]
        exact mr_vret F hQ hM ⟨rfl, by rw [hR, hF]⟩ (Nat.le_of_ble_eq_true rfl) (Nat.le_of_ble_eq_true rfl) dX2_fly_80
      · have hR : nRubR r d h k = va_up (va_up (va_up r (32 + (4 * d + h)) (r (32 + (4 * d + h)) + nI 1)) (16 + (4 * d + h)) (nI 1)) (32 + (4 * d + h)) (nI 0) := by unfold nRubR; rw [if_neg hS0, if_pos hSc, if_pos c72]
        refine lv_aload F.1.1 F.1.2.1 dX2_fly_75 (lv_at hl 0 rfl) ?_
        refine mc_Uv (As := []) F hM (cs_X4_strike_rHD l hd hn (by omega) (by omega)) (va_cwU (owner := "DiskPacks$Head") 0 F.1.2.2.2.2 (lw_U q929 q930 q932 q933 q76 q934) rfl rfl rfl rfl (by decide +kernel) (mRm_ok (by decide) (by decide))) (sM_HD hd (by omega) (by omega)) rfl rfl rfl rfl hl.1 rfl (Nat.le_of_ble_eq_true rfl) dX2_fly_77 ⟨Nat.le_of_ble_eq_true rfl, Nat.le_of_ble_eq_true rfl⟩ (fun H locs hM => ?_)
        exact mr_vret F hQ hM ⟨rfl, by rw [hR, hF]⟩ (Nat.le_of_ble_eq_true rfl) (Nat.le_of_ble_eq_true rfl) dX2_fly_80
  · have hS1 : r (16 + (4 * d + h)) = nI 1 := (hI.2.2.2.1 (4 * d + h) (by omega)).resolve_left c24
    have hR : nRubR r d h k = va_up r (96 + 3 * k + h) (nI 1) := by unfold nRubR; exact if_pos hS1
    have hF : nRubF r f d h k q0 = va_up f (40 * (3 * k + h) + q0) (FP.fdiv (f (40 * (3 * k + h) + q0)) FP.fconst2) := by unfold nRubF; exact if_pos hS1
    refine lv_aload_n F.1.1 F.1.2.1 dX2_fly_27 rfl (lv_at hl 1 rfl) ?_
    refine mr_iconst F 1 dX2_fly_28 (by decide +kernel) ?_
    refine cp7 F hM (sM_S hd hn (by omega)) 3 (by decide) q1113 (fun x h => h) rfl (by first | rfl | exact nZ_bI _) (by first | rfl | exact fZ_bI _) (Nat.le_of_ble_eq_true rfl) dX2_fly_29 (fun H locs hM => ?_)
    rw [su_S3 hd hn (by omega) (show 96 + 3 * k + h = 96 + (3 * k + h) by omega)] at hM
    refine lv_aload_n F.1.1 F.1.2.1 dX2_fly_32 rfl (lv_at hl 1 rfl) ?_
    refine lv_aload_n F.1.1 F.1.2.1 dX2_fly_33 rfl (lv_at hl 2 rfl) ?_
    refine cg1 F hM (sM_0 hd) 0 (by decide) q306 (fun x h => h) rfl dX2_fly_34 ?_
    refine lv_iload_n F.1.1 F.1.2.1 dX2_fly_37 rfl (lv_at hl 3 rfl) ?_
    refine sr_ld1 F hd hM (by omega) dX2_fly_38 ?_
    refine cg2 F hM (sM_D hd (by omega)) 4 (by decide) q283 (fun x h => h) (congrArg (fun z => some (Value.int z)) ((va_up_ne _ _ (by omega)).trans hc)) dX2_fly_39 ?_
    refine mc_Vv (As := [_]) F hM (cs_X9_halve l hd hn (by omega) (by omega) (sg_S hI h2 hk6 h4)) (cwV 1 F.1.2.2.2.2 (lw_V q925 q926 q927 q95 q928) rfl rfl rfl (by decide +kernel) (mRm_ok (by decide) (by decide))) (sM_S hd hn (by omega)) rfl rfl rfl rfl hl.1 rfl (Nat.le_of_ble_eq_true rfl) dX2_fly_42 ⟨Nat.le_of_ble_eq_true rfl, Nat.le_of_ble_eq_true rfl⟩ (fun H locs hM => ?_)
    refine lv_goto (tgt := 80) F.1.1 F.1.2.1 dX2_fly_45 (by decide) ?_
    exact mr_vret F hQ hM ⟨rfl, by rw [hR, hF]⟩ (Nat.le_of_ble_eq_true rfl) (Nat.le_of_ble_eq_true rfl) dX2_fly_80
set_option maxHeartbeats 4000000 in
theorem cs_X2_write_ok (l : Launch) {G : mG} {ad : Nat → Nat} {n : Nat} {r : Nat → Int32} {f : Nat → UInt32} {dv : Nat → Int32} {M0 : mM} {d h k q0 : Nat} {v : Int32} (hd : sAd n ad) (hn : n ≤ 6) (hI : mInv r f) (h89 : r 89 = nI n) (hp : r (60 + d) = nI k) (hc : r (52 + d) = nI q0) (h1 : d < 4) (h2 : h < 3) (h3 : k < n) (h4 : q0 < 40) : mMet l yX2_write (ws_ yX2_write cX2_write 6 (some .boolean)) (mRm 6 0 0) [.ref (ad 0), .int (nI d), .int (nI h), .int v] G (pPre (sM G ad n r f dv M0)) (pPost (sM G ad n (nRubR (nWrR r d h k q0 v) d h k) (nRubF (nWrR r d h k q0 v) (nWrF r f d h k q0) d h k q0) dv M0) (some (.int (nI 1)))) := by
  refine mMet.of (by decide +kernel) (Nat.le_of_ble_eq_true rfl) fun p e s m args below meth c A Q M hM0 F hnm hQ hM ls hl => ?_
  have hM0 : M = sM G ad n r f dv M0 := hM0
  subst hM0
  have hl : lv_has ls 6 [(0, .ref (ad 0)), (1, .int (nI d)), (2, .int (nI h)), (3, .int v)] := hl
  have hk6 : k < 6 := by omega
  have hpn : ¬ r (60 + d) = -1 := by rw [hp]; exact m1_ne_nI (by omega)
  refine lv_aload_n F.1.1 F.1.2.1 dX2_write_0 rfl (lv_at hl 0 rfl) ?_
  refine lv_iload_n F.1.1 F.1.2.1 dX2_write_1 rfl (lv_at hl 1 rfl) ?_
  refine mc_Va (As := [_]) F hM (cs_X2_hasPack l hd hn (by omega)) (cwV 1 F.1.2.2.2.2 (lw_V q819 q820 q821 q71 q822) rfl rfl rfl (by decide +kernel) (mRm_ok (by decide) (by decide))) (sM_0 hd) rfl rfl rfl rfl hl.1 rfl (Nat.le_of_ble_eq_true rfl) dX2_write_2 ⟨Nat.le_of_ble_eq_true rfl, Nat.le_of_ble_eq_true rfl⟩ (fun H locs hM => ?_)
  refine lv_istore (lv' := [(4, _), (0, _), (1, _), (2, _), (3, _)]) F.1.1 F.1.2.1 dX2_write_5 hl (by decide) rfl (fun ls hl => ?_)
  refine lv_iload F.1.1 F.1.2.1 dX2_write_7 (lv_at hl 0 rfl) ?_
  refine mr_ifeqB F (tgt := 61) dX2_write_9 (by decide) (fun c9 => ?_) (fun c9 => ?_)
  · exact absurd hpn c9
  · refine lv_aload_n F.1.1 F.1.2.1 dX2_write_12 rfl (lv_at hl 1 rfl) ?_
    refine cg1 F hM (sM_0 hd) 0 (by decide) q306 (fun x h => h) rfl dX2_write_13 ?_
    refine lv_iload_n F.1.1 F.1.2.1 dX2_write_16 rfl (lv_at hl 2 rfl) ?_
    refine sr_ld1 F hd hM (by omega) dX2_write_17 ?_
    refine lv_iload_n F.1.1 F.1.2.1 dX2_write_18 rfl (lv_at hl 3 rfl) ?_
    refine mc_Va (As := [_]) F hM (cs_X3_dataHead l hd hn (by omega) (by omega)) (cwV 1 F.1.2.2.2.2 (lw_V q881 q882 q883 q75 q884) rfl rfl rfl (by decide +kernel) (mRm_ok (by decide) (by decide))) (sM_D hd (by omega)) rfl rfl rfl rfl hl.1 rfl (Nat.le_of_ble_eq_true rfl) dX2_write_19 ⟨Nat.le_of_ble_eq_true rfl, Nat.le_of_ble_eq_true rfl⟩ (fun H locs hM => ?_)
    refine lv_fconst1 F.1.1 F.1.2.1 dX2_write_22 ?_
    refine mc_Va (As := [_]) F hM (cs_X6_weakened l hd hn (by omega) (by omega) (fs_halfN' fs_1)) (cwV 1 F.1.2.2.2.2 (lw_V q889 q890 q891 q78 q892) rfl rfl rfl (by decide +kernel) (mRm_ok (by decide) (by decide))) (sM_HD hd (by omega) (by omega)) rfl rfl rfl rfl hl.1 rfl (Nat.le_of_ble_eq_true rfl) dX2_write_23 ⟨Nat.le_of_ble_eq_true rfl, Nat.le_of_ble_eq_true rfl⟩ (fun H locs hM => ?_)
    refine lv_fstore (lv' := [(5, _), (4, _), (0, _), (1, _), (2, _), (3, _)]) F.1.1 F.1.2.1 dX2_write_26 hl (by decide) rfl (fun ls hl => ?_)
    refine lv_aload_n F.1.1 F.1.2.1 dX2_write_28 rfl (lv_at hl 2 rfl) ?_
    refine lv_iload_n F.1.1 F.1.2.1 dX2_write_29 rfl (lv_at hl 3 rfl) ?_
    refine lv_iload_n F.1.1 F.1.2.1 dX2_write_30 rfl (lv_at hl 4 rfl) ?_
    refine mc_Va (As := [_, _]) F hM (cs_X2_surface l hd hn (by assumption) (by omega) (by omega) (by omega)) (cwV 2 F.1.2.2.2.2 (lw_V q893 q894 q895 q71 q896) rfl rfl rfl (by decide +kernel) (mRm_ok (by decide) (by decide))) (sM_0 hd) rfl rfl rfl rfl hl.1 rfl (Nat.le_of_ble_eq_true rfl) dX2_write_31 ⟨Nat.le_of_ble_eq_true rfl, Nat.le_of_ble_eq_true rfl⟩ (fun H locs hM => ?_)
    refine lv_aload_n F.1.1 F.1.2.1 dX2_write_34 rfl (lv_at hl 2 rfl) ?_
    refine cg1 F hM (sM_0 hd) 0 (by decide) q306 (fun x h => h) rfl dX2_write_35 ?_
    refine lv_iload_n F.1.1 F.1.2.1 dX2_write_38 rfl (lv_at hl 3 rfl) ?_
    refine sr_ld1 F hd hM (by omega) dX2_write_39 ?_
    refine cg2 F hM (sM_D hd (by omega)) 4 (by decide) q283 (fun x h => h) (congrArg (fun z => some (Value.int z)) hc) dX2_write_40 ?_
    refine lv_iload_n F.1.1 F.1.2.1 dX2_write_43 rfl (lv_at hl 5 rfl) ?_
    refine lv_aload_n F.1.1 F.1.2.1 dX2_write_44 rfl (lv_at hl 2 rfl) ?_
    refine lv_iload_n F.1.1 F.1.2.1 dX2_write_45 rfl (lv_at hl 3 rfl) ?_
    refine lv_iload_n F.1.1 F.1.2.1 dX2_write_46 rfl (lv_at hl 4 rfl) ?_
    refine mc_Va (As := [_, _]) F hM (cs_X2_place l hd hn (by assumption) (by assumption) (by omega) (by omega) (by omega) (by omega)) (cwV 2 F.1.2.2.2.2 (lw_V q897 q898 q899 q71 q900) rfl rfl rfl (by decide +kernel) (mRm_ok (by decide) (by decide))) (sM_0 hd) rfl rfl rfl rfl hl.1 rfl (Nat.le_of_ble_eq_true rfl) dX2_write_47 ⟨Nat.le_of_ble_eq_true rfl, Nat.le_of_ble_eq_true rfl⟩ (fun H locs hM => ?_)
    refine lv_fload F.1.1 F.1.2.1 dX2_write_50 (lv_at hl 0 rfl) ?_
    refine mc_Vv (As := [_, _, _, _]) F hM (cs_X9_write l hd hn (by omega) (by omega) (wr_N hI h1 h2)) (cwV 4 F.1.2.2.2.2 (lw_V q909 q910 q911 q95 q912) rfl rfl rfl (by decide +kernel) (mRm_ok (by decide) (by decide))) (sM_S hd hn (by omega)) rfl rfl rfl rfl hl.1 rfl (Nat.le_of_ble_eq_true rfl) dX2_write_52 ⟨Nat.le_of_ble_eq_true rfl, Nat.le_of_ble_eq_true rfl⟩ (fun H locs hM => ?_)
    rw [wr_E hI h1 h2 hk6 h4] at hM
    have hM : mWd G A s.heap (sM G ad n (nWrR r d h k q0 v) (nWrF r f d h k q0) dv M0) H locs := hM
    refine lv_aload_n F.1.1 F.1.2.1 dX2_write_55 rfl (lv_at hl 2 rfl) ?_
    refine lv_iload_n F.1.1 F.1.2.1 dX2_write_56 rfl (lv_at hl 3 rfl) ?_
    refine lv_iload_n F.1.1 F.1.2.1 dX2_write_57 rfl (lv_at hl 4 rfl) ?_
    refine mc_Vv (As := [_, _]) F hM (cs_X2_fly l hd hn (mInv_wr hI h89 hn h1 h2 h3 h4) ((nWrR_at (by omega)).trans hp) ((nWrR_at (by omega)).trans hc) (by omega) (by omega) (by omega) (by omega)) (cwV 2 F.1.2.2.2.2 (lw_V q921 q923 qs13 q71 q924) rfl rfl rfl (by decide +kernel) (mRm_ok (by decide) (by decide))) (sM_0 hd) rfl rfl rfl rfl hl.1 rfl (Nat.le_of_ble_eq_true rfl) dX2_write_58 ⟨Nat.le_of_ble_eq_true rfl, Nat.le_of_ble_eq_true rfl⟩ (fun H locs hM => ?_)
    refine lv_iload F.1.1 F.1.2.1 dX2_write_61 (lv_at hl 1 rfl) ?_
    exact mr_zret F hQ (nZ_bI _) hM ⟨by rw [bI_t hpn] <;> rfl, rfl⟩ (Nat.le_of_ble_eq_true rfl) (Nat.le_of_ble_eq_true rfl) dX2_write_63
set_option maxHeartbeats 4000000 in
theorem cs_X2_write_no (l : Launch) {G : mG} {ad : Nat → Nat} {n : Nat} {r : Nat → Int32} {f : Nat → UInt32} {dv : Nat → Int32} {M0 : mM} {d : Nat} {x z : Int32} (hd : sAd n ad) (hn : n ≤ 6) (hp : r (60 + d) = -1) (h1 : d < 4) : mMet l yX2_write (ws_ yX2_write cX2_write 6 (some .boolean)) (mRm 6 0 0) [.ref (ad 0), .int (nI d), .int x, .int z] G (pPre (sM G ad n r f dv M0)) (pPost (sM G ad n r f dv M0) (some (.int (nI 0)))) := by
  refine mMet.of (by decide +kernel) (Nat.le_of_ble_eq_true rfl) fun p e s m args below meth c A Q M hM0 F hnm hQ hM ls hl => ?_
  have hM0 : M = sM G ad n r f dv M0 := hM0
  subst hM0
  have hl : lv_has ls 6 [(0, .ref (ad 0)), (1, .int (nI d)), (2, .int x), (3, .int z)] := hl
  have hpn : ¬ ¬ r (60 + d) = -1 := fun q => q hp
  refine lv_aload_n F.1.1 F.1.2.1 dX2_write_0 rfl (lv_at hl 0 rfl) ?_
  refine lv_iload_n F.1.1 F.1.2.1 dX2_write_1 rfl (lv_at hl 1 rfl) ?_
  refine mc_Va (As := [_]) F hM (cs_X2_hasPack l hd hn (by omega)) (cwV 1 F.1.2.2.2.2 (lw_V q819 q820 q821 q71 q822) rfl rfl rfl (by decide +kernel) (mRm_ok (by decide) (by decide))) (sM_0 hd) rfl rfl rfl rfl hl.1 rfl (Nat.le_of_ble_eq_true rfl) dX2_write_2 ⟨Nat.le_of_ble_eq_true rfl, Nat.le_of_ble_eq_true rfl⟩ (fun H locs hM => ?_)
  refine lv_istore (lv' := [(4, _), (0, _), (1, _), (2, _), (3, _)]) F.1.1 F.1.2.1 dX2_write_5 hl (by decide) rfl (fun ls hl => ?_)
  refine lv_iload F.1.1 F.1.2.1 dX2_write_7 (lv_at hl 0 rfl) ?_
  refine mr_ifeqB F (tgt := 61) dX2_write_9 (by decide) (fun c9 => ?_) (fun c9 => ?_)
  · refine lv_iload F.1.1 F.1.2.1 dX2_write_61 (lv_at hl 0 rfl) ?_
    exact mr_zret F hQ (nZ_bI _) hM ⟨by rw [bI_f hpn] <;> rfl, rfl⟩ (Nat.le_of_ble_eq_true rfl) (Nat.le_of_ble_eq_true rfl) dX2_write_63
  · exact absurd c9 hpn
set_option maxHeartbeats 4000000 in
theorem cs_X2_read_ok (l : Launch) {G : mG} {ad : Nat → Nat} {n : Nat} {r : Nat → Int32} {f : Nat → UInt32} {dv : Nat → Int32} {M0 : mM} {d h k q0 t : Nat} (hd : sAd n ad) (hn : n ≤ 6) (hI : mInv r f) (h89 : r 89 = nI n) (hp : r (60 + d) = nI k) (hc : r (52 + d) = nI q0) (ht : r 88 = nI t) (ht8 : t ≤ 8) (h1 : d < 4) (h2 : h < 3) (h3 : k < n) (h4 : q0 < 40) : mMet l yX2_read (ws_ yX2_read cX2_read 7 (some .int)) (mRm 8 0 0) [.ref (ad 0), .int (nI d), .int (nI h)] G (pPre (sM G ad n r f dv M0)) (pPost (sM G ad n (nRubR (nRdR r d k t (mRt r f d h k q0 t)) d h k) (nRubF (nRdR r d k t (mRt r f d h k q0 t)) f d h k q0) dv M0) (some (.int (nRdV r h k q0 (mRt r f d h k q0 t))))) := by
  refine mMet.of (by decide +kernel) (Nat.le_of_ble_eq_true rfl) fun p e s m args below meth c A Q M hM0 F hnm hQ hM ls hl => ?_
  have hM0 : M = sM G ad n r f dv M0 := hM0
  subst hM0
  have hl : lv_has ls 7 [(0, .ref (ad 0)), (1, .int (nI d)), (2, .int (nI h))] := hl
  have hk6 : k < 6 := by omega
  have hpn : ¬ r (60 + d) = -1 := by rw [hp]; exact m1_ne_nI (by omega)
  refine lv_aload_n F.1.1 F.1.2.1 dX2_read_0 rfl (lv_at hl 0 rfl) ?_
  refine lv_iload_n F.1.1 F.1.2.1 dX2_read_1 rfl (lv_at hl 1 rfl) ?_
  refine mc_Va (As := [_]) F hM (cs_X2_hasPack l hd hn (by omega)) (cwV 1 F.1.2.2.2.2 (lw_V q819 q820 q821 q71 q822) rfl rfl rfl (by decide +kernel) (mRm_ok (by decide) (by decide))) (sM_0 hd) rfl rfl rfl rfl hl.1 rfl (Nat.le_of_ble_eq_true rfl) dX2_read_2 ⟨Nat.le_of_ble_eq_true rfl, Nat.le_of_ble_eq_true rfl⟩ (fun H locs hM => ?_)
  refine mr_ifneB F (tgt := 10) dX2_read_5 (by decide) (fun c5 => ?_) (fun c5 => ?_)
  · refine lv_aload_n F.1.1 F.1.2.1 dX2_read_10 rfl (lv_at hl 0 rfl) ?_
    refine cg1 F hM (sM_0 hd) 0 (by decide) q306 (fun x h => h) rfl dX2_read_11 ?_
    refine lv_iload_n F.1.1 F.1.2.1 dX2_read_14 rfl (lv_at hl 1 rfl) ?_
    refine sr_ld1 F hd hM (by omega) dX2_read_15 ?_
    refine cg2 F hM (sM_D hd (by omega)) 6 (by decide) q289 (fun x h => h) (congrArg (fun z => some (Value.int z)) hp) dX2_read_16 ?_
    refine lv_istore_n (lv' := [(3, _), (0, _), (1, _), (2, _)]) F.1.1 F.1.2.1 dX2_read_19 rfl hl (by decide) rfl (fun ls hl => ?_)
    refine lv_aload_n F.1.1 F.1.2.1 dX2_read_20 rfl (lv_at hl 1 rfl) ?_
    refine lv_iload_n F.1.1 F.1.2.1 dX2_read_21 rfl (lv_at hl 2 rfl) ?_
    refine lv_iload_n F.1.1 F.1.2.1 dX2_read_22 rfl (lv_at hl 3 rfl) ?_
    refine mc_Va (As := [_, _]) F hM (cs_X2_retries l hd hn (by assumption) (by assumption) (by assumption) (by assumption) (by omega) (by omega) (by omega) (by omega) (by omega)) (cwV 2 F.1.2.2.2.2 (lw_V q946 q947 q948 q71 q949) rfl rfl rfl (by decide +kernel) (mRm_ok (by decide) (by decide))) (sM_0 hd) rfl rfl rfl rfl hl.1 rfl (Nat.le_of_ble_eq_true rfl) dX2_read_23 ⟨Nat.le_of_ble_eq_true rfl, Nat.le_of_ble_eq_true rfl⟩ (fun H locs hM => ?_)
    refine lv_istore (lv' := [(4, _), (3, _), (0, _), (1, _), (2, _)]) F.1.1 F.1.2.1 dX2_read_26 hl (by decide) rfl (fun ls hl => ?_)
    refine lv_iload F.1.1 F.1.2.1 dX2_read_28 (lv_at hl 0 rfl) ?_
    refine lv_iconst (v := -1) F.1.1 F.1.2.1 dX2_read_30 (by decide +kernel) ?_
    refine lv_icmp_ne (tgt := 38) F.1.1 F.1.2.1 dX2_read_31 (by decide) (fun c31 => ?_) (fun c31 => ?_)
    · obtain ⟨j, hj17, hq⟩ := (mRt_or r f d h k q0 ht8).resolve_left c31
      rw [hq] at hl
      have hjn : ¬ nI j = -1 := m1_ne_nI (by omega)
      have hA := rd_A (r := r) (d := d) (k := k) (t := t) (c := 114) (q := nI j) (m := nI j) (if_neg hjn).symm (if_neg hjn) h1 hk6
      refine lv_aload_n F.1.1 F.1.2.1 dX2_read_38 rfl (lv_at hl 2 rfl) ?_
      refine lv_iload_n F.1.1 F.1.2.1 dX2_read_39 rfl (lv_at hl 3 rfl) ?_
      refine lv_iload_n F.1.1 F.1.2.1 dX2_read_40 rfl (lv_at hl 4 rfl) ?_
      refine mc_Va (As := [_, _]) F hM (cs_X2_surface l hd hn (by assumption) (by omega) (by omega) (by omega)) (cwV 2 F.1.2.2.2.2 (lw_V q893 q894 q895 q71 q896) rfl rfl rfl (by decide +kernel) (mRm_ok (by decide) (by decide))) (sM_0 hd) rfl rfl rfl rfl hl.1 rfl (Nat.le_of_ble_eq_true rfl) dX2_read_41 ⟨Nat.le_of_ble_eq_true rfl, Nat.le_of_ble_eq_true rfl⟩ (fun H locs hM => ?_)
      refine cg7 F hM (sM_S hd hn (by omega)) 0 (by decide) q1103 (fun x h => h) rfl dX2_read_44 ?_
      refine lv_aload_n F.1.1 F.1.2.1 dX2_read_47 rfl (lv_at hl 2 rfl) ?_
      refine cg1 F hM (sM_0 hd) 0 (by decide) q306 (fun x h => h) rfl dX2_read_48 ?_
      refine lv_iload_n F.1.1 F.1.2.1 dX2_read_51 rfl (lv_at hl 3 rfl) ?_
      refine sr_ld1 F hd hM (by omega) dX2_read_52 ?_
      refine cg2 F hM (sM_D hd (by omega)) 4 (by decide) q283 (fun x h => h) (congrArg (fun z => some (Value.int z)) hc) dX2_read_53 ?_
      refine sr_ldV F hd hn hM (j0 := 126 + (40 * (3 * k + h) + q0)) (by omega) (by omega) (by omega) dX2_read_56 ?_
      refine lv_istore (lv' := [(5, _), (4, _), (3, _), (0, _), (1, _), (2, _)]) F.1.1 F.1.2.1 dX2_read_57 hl (by decide) rfl (fun ls hl => ?_)
      refine lv_iload F.1.1 F.1.2.1 dX2_read_59 (lv_at hl 1 rfl) ?_
      refine lv_iconst (v := -1) F.1.1 F.1.2.1 dX2_read_61 (by decide +kernel) ?_
      refine lv_icmp_ne (tgt := 76) F.1.1 F.1.2.1 dX2_read_62 (by decide) (fun c62 => ?_) (fun c62 => ?_)
      · refine lv_iload F.1.1 F.1.2.1 dX2_read_76 (lv_at hl 1 rfl) ?_
        refine lv_istore (lv' := [(6, _), (5, _), (4, _), (3, _), (0, _), (1, _), (2, _)]) F.1.1 F.1.2.1 dX2_read_78 hl (by decide) rfl (fun ls hl => ?_)
        refine lv_aload_n F.1.1 F.1.2.1 dX2_read_80 rfl (lv_at hl 4 rfl) ?_
        refine cg1 F hM (sM_0 hd) 2 (by decide) q310 (fun x h => h) rfl dX2_read_81 ?_
        refine lv_iload_n F.1.1 F.1.2.1 dX2_read_84 rfl (lv_at hl 5 rfl) ?_
        refine lv_dup2_11 F.1.1 F.1.2.1 dX2_read_85 rfl rfl ?_
        refine sr_ld4 F hd hn hM (j0 := 116 + d) (by omega) (by omega) dX2_read_86 ?_
        refine lv_iload F.1.1 F.1.2.1 dX2_read_87 (lv_at hl 0 rfl) ?_
        refine lv_iadd F.1.1 F.1.2.1 dX2_read_89 ?_
        refine sr_st4 F hd hn hM (j0 := 116 + d) (by omega) (by omega) dX2_read_90 (fun H locs hM => ?_)
        refine lv_aload_n F.1.1 F.1.2.1 dX2_read_91 rfl (lv_at hl 4 rfl) ?_
        refine cg1 F hM (sM_0 hd) 3 (by decide) q312 (fun x h => h) rfl dX2_read_92 ?_
        refine lv_iload_n F.1.1 F.1.2.1 dX2_read_95 rfl (lv_at hl 3 rfl) ?_
        refine lv_dup2_11 F.1.1 F.1.2.1 dX2_read_96 rfl rfl ?_
        refine sr_ld5 F hd hn hM (j0 := 120 + k) (by omega) (by omega) dX2_read_97 ?_
        refine lv_iload F.1.1 F.1.2.1 dX2_read_98 (lv_at hl 0 rfl) ?_
        refine lv_iadd F.1.1 F.1.2.1 dX2_read_100 ?_
        refine sr_st5 F hd hn hM (j0 := 120 + k) (by omega) (by omega) dX2_read_101 (fun H locs hM => ?_)
        refine lv_iload F.1.1 F.1.2.1 dX2_read_102 (lv_at hl 2 rfl) ?_
        refine lv_iconst (v := -1) F.1.1 F.1.2.1 dX2_read_104 (by decide +kernel) ?_
        refine lv_icmp_ne (tgt := 121) F.1.1 F.1.2.1 dX2_read_105 (by decide) (fun c105 => ?_) (fun c105 => ?_)
        · refine lv_aload_n F.1.1 F.1.2.1 dX2_read_121 rfl (lv_at hl 4 rfl) ?_
          refine lv_dup F.1.1 F.1.2.1 dX2_read_122 rfl ?_
          refine cg1 F hM (sM_0 hd) 5 (by decide) q316 (fun x h => h) rfl dX2_read_123 ?_
          refine mr_iconst F 1 dX2_read_126 (by decide +kernel) ?_
          refine lv_iadd F.1.1 F.1.2.1 dX2_read_127 ?_
          refine cp1 F hM (sM_0 hd) 5 (by decide) q316 (fun x h => h) rfl rfl rfl (Nat.le_of_ble_eq_true rfl) dX2_read_128 (fun H locs hM => ?_)
          rw [su_r hd hn rfl] at hM
          rw [hA] at hM
          refine lv_aload_n F.1.1 F.1.2.1 dX2_read_131 rfl (lv_at hl 4 rfl) ?_
          refine cg1 F hM (sM_0 hd) 0 (by decide) q306 (fun x h => h) rfl dX2_read_132 ?_
          refine lv_iload_n F.1.1 F.1.2.1 dX2_read_135 rfl (lv_at hl 5 rfl) ?_
          refine sr_ld1 F hd hM (by omega) dX2_read_136 ?_
          refine lv_iload_n F.1.1 F.1.2.1 dX2_read_137 rfl (lv_at hl 3 rfl) ?_
          refine lv_iload F.1.1 F.1.2.1 dX2_read_138 (lv_at hl 2 rfl) ?_
          refine mc_Sa (As := [_]) F hM (cs_X2_offset l hj17) (va_cwS 1 F.1.2.2.2.2 (lw_S q954 q955 q71 q956) rfl rfl rfl (by decide +kernel) (mRm_ok (by decide) (by decide))) rfl rfl hl.1 rfl (Nat.le_of_ble_eq_true rfl) dX2_read_140 ⟨Nat.le_of_ble_eq_true rfl, Nat.le_of_ble_eq_true rfl⟩ (fun H locs hM => ?_)
          refine mc_Vv (As := [_, _]) F hM (cs_X3_learn l hd hn (by omega) (by omega)) (cwV 2 F.1.2.2.2.2 (lw_V q970 q971 q972 q75 q973) rfl rfl rfl (by decide +kernel) (mRm_ok (by decide) (by decide))) (sM_D hd (by omega)) rfl rfl rfl rfl hl.1 rfl (Nat.le_of_ble_eq_true rfl) dX2_read_143 ⟨Nat.le_of_ble_eq_true rfl, Nat.le_of_ble_eq_true rfl⟩ (fun H locs hM => ?_)
          rw [rd_R hI h1 hk6 hj17] at hM
          refine lv_aload_n F.1.1 F.1.2.1 dX2_read_146 rfl (lv_at hl 4 rfl) ?_
          refine lv_iload_n F.1.1 F.1.2.1 dX2_read_147 rfl (lv_at hl 5 rfl) ?_
          refine lv_iload_n F.1.1 F.1.2.1 dX2_read_148 rfl (lv_at hl 6 rfl) ?_
          refine mc_Vv (As := [_, _]) F hM (cs_X2_fly l hd hn (mInv_rd hI h89 hn h1 h3) ((nRdR_at (by omega)).trans hp) ((nRdR_at (by omega)).trans hc) (by omega) (by omega) (by omega) (by omega)) (cwV 2 F.1.2.2.2.2 (lw_V q921 q923 qs13 q71 q924) rfl rfl rfl (by decide +kernel) (mRm_ok (by decide) (by decide))) (sM_0 hd) rfl rfl rfl rfl hl.1 rfl (Nat.le_of_ble_eq_true rfl) dX2_read_149 ⟨Nat.le_of_ble_eq_true rfl, Nat.le_of_ble_eq_true rfl⟩ (fun H locs hM => ?_)
          refine lv_iload F.1.1 F.1.2.1 dX2_read_152 (lv_at hl 1 rfl) ?_
          exact mr_iret F hQ hM ⟨by rw [hq]; unfold nRdV; rw [if_neg hjn], by rw [hq]⟩ (Nat.le_of_ble_eq_true rfl) (Nat.le_of_ble_eq_true rfl) dX2_read_154
        · exact absurd c105 hjn
      · exact absurd c62 hjn
    · have hq : (mRt r f d h k q0 t) = -1 := c31
      rw [hq] at hl
      have hA := rd_A (r := r) (d := d) (k := k) (t := t) (c := 115) (q := -1) (m := nI (2 * t + 1)) (if_pos rfl).symm (if_pos rfl) h1 hk6
      have hR : nRdR r d k t (-1) = nRdA r d k t (-1) := by unfold nRdR; exact if_neg (by decide)
      refine lv_iconst (v := -1) F.1.1 F.1.2.1 dX2_read_34 (by decide +kernel) ?_
      refine lv_goto (tgt := 57) F.1.1 F.1.2.1 dX2_read_35 (by decide) ?_
      refine lv_istore (lv' := [(5, _), (4, _), (3, _), (0, _), (1, _), (2, _)]) F.1.1 F.1.2.1 dX2_read_57 hl (by decide) rfl (fun ls hl => ?_)
      refine lv_iload F.1.1 F.1.2.1 dX2_read_59 (lv_at hl 1 rfl) ?_
      refine lv_iconst (v := -1) F.1.1 F.1.2.1 dX2_read_61 (by decide +kernel) ?_
      refine lv_icmp_ne (tgt := 76) F.1.1 F.1.2.1 dX2_read_62 (by decide) (fun c62 => ?_) (fun c62 => ?_)
      · exact absurd rfl c62
      · refine mr_iconst F 2 dX2_read_65 (by decide +kernel) ?_
        refine lv_aload_n F.1.1 F.1.2.1 dX2_read_66 rfl (lv_at hl 3 rfl) ?_
        refine cg1 F hM (sM_0 hd) 4 (by decide) q314 (fun x h => h) (congrArg (fun z => some (Value.int z)) ht) dX2_read_67 ?_
        refine mr_imulN F dX2_read_70 ?_
        refine mr_iconst F 1 dX2_read_71 (by decide +kernel) ?_
        refine mr_iaddN F dX2_read_72 ?_
        refine lv_goto (tgt := 78) F.1.1 F.1.2.1 dX2_read_73 (by decide) ?_
        refine lv_istore (lv' := [(6, _), (5, _), (4, _), (3, _), (0, _), (1, _), (2, _)]) F.1.1 F.1.2.1 dX2_read_78 hl (by decide) rfl (fun ls hl => ?_)
        refine lv_aload_n F.1.1 F.1.2.1 dX2_read_80 rfl (lv_at hl 4 rfl) ?_
        refine cg1 F hM (sM_0 hd) 2 (by decide) q310 (fun x h => h) rfl dX2_read_81 ?_
        refine lv_iload_n F.1.1 F.1.2.1 dX2_read_84 rfl (lv_at hl 5 rfl) ?_
        refine lv_dup2_11 F.1.1 F.1.2.1 dX2_read_85 rfl rfl ?_
        refine sr_ld4 F hd hn hM (j0 := 116 + d) (by omega) (by omega) dX2_read_86 ?_
        refine lv_iload F.1.1 F.1.2.1 dX2_read_87 (lv_at hl 0 rfl) ?_
        refine lv_iadd F.1.1 F.1.2.1 dX2_read_89 ?_
        refine sr_st4 F hd hn hM (j0 := 116 + d) (by omega) (by omega) dX2_read_90 (fun H locs hM => ?_)
        refine lv_aload_n F.1.1 F.1.2.1 dX2_read_91 rfl (lv_at hl 4 rfl) ?_
        refine cg1 F hM (sM_0 hd) 3 (by decide) q312 (fun x h => h) rfl dX2_read_92 ?_
        refine lv_iload_n F.1.1 F.1.2.1 dX2_read_95 rfl (lv_at hl 3 rfl) ?_
        refine lv_dup2_11 F.1.1 F.1.2.1 dX2_read_96 rfl rfl ?_
        refine sr_ld5 F hd hn hM (j0 := 120 + k) (by omega) (by omega) dX2_read_97 ?_
        refine lv_iload F.1.1 F.1.2.1 dX2_read_98 (lv_at hl 0 rfl) ?_
        refine lv_iadd F.1.1 F.1.2.1 dX2_read_100 ?_
        refine sr_st5 F hd hn hM (j0 := 120 + k) (by omega) (by omega) dX2_read_101 (fun H locs hM => ?_)
        refine lv_iload F.1.1 F.1.2.1 dX2_read_102 (lv_at hl 2 rfl) ?_
        refine lv_iconst (v := -1) F.1.1 F.1.2.1 dX2_read_104 (by decide +kernel) ?_
        refine lv_icmp_ne (tgt := 121) F.1.1 F.1.2.1 dX2_read_105 (by decide) (fun c105 => ?_) (fun c105 => ?_)
        · exact absurd rfl c105
        · refine lv_aload_n F.1.1 F.1.2.1 dX2_read_108 rfl (lv_at hl 4 rfl) ?_
          refine lv_dup F.1.1 F.1.2.1 dX2_read_109 rfl ?_
          refine cg1 F hM (sM_0 hd) 6 (by decide) q318 (fun x h => h) rfl dX2_read_110 ?_
          refine mr_iconst F 1 dX2_read_113 (by decide +kernel) ?_
          refine lv_iadd F.1.1 F.1.2.1 dX2_read_114 ?_
          refine cp1 F hM (sM_0 hd) 6 (by decide) q318 (fun x h => h) rfl rfl rfl (Nat.le_of_ble_eq_true rfl) dX2_read_115 (fun H locs hM => ?_)
          rw [su_f hd hn rfl] at hM
          refine lv_goto (tgt := 146) F.1.1 F.1.2.1 dX2_read_118 (by decide) ?_
          rw [hA, ← hR] at hM
          refine lv_aload_n F.1.1 F.1.2.1 dX2_read_146 rfl (lv_at hl 4 rfl) ?_
          refine lv_iload_n F.1.1 F.1.2.1 dX2_read_147 rfl (lv_at hl 5 rfl) ?_
          refine lv_iload_n F.1.1 F.1.2.1 dX2_read_148 rfl (lv_at hl 6 rfl) ?_
          refine mc_Vv (As := [_, _]) F hM (cs_X2_fly l hd hn (mInv_rd hI h89 hn h1 h3) ((nRdR_at (by omega)).trans hp) ((nRdR_at (by omega)).trans hc) (by omega) (by omega) (by omega) (by omega)) (cwV 2 F.1.2.2.2.2 (lw_V q921 q923 qs13 q71 q924) rfl rfl rfl (by decide +kernel) (mRm_ok (by decide) (by decide))) (sM_0 hd) rfl rfl rfl rfl hl.1 rfl (Nat.le_of_ble_eq_true rfl) dX2_read_149 ⟨Nat.le_of_ble_eq_true rfl, Nat.le_of_ble_eq_true rfl⟩ (fun H locs hM => ?_)
          refine lv_iload F.1.1 F.1.2.1 dX2_read_152 (lv_at hl 1 rfl) ?_
          exact mr_iret F hQ hM ⟨by rw [hq] <;> rfl, by rw [hq]⟩ (Nat.le_of_ble_eq_true rfl) (Nat.le_of_ble_eq_true rfl) dX2_read_154
  · exact absurd hpn c5
set_option maxHeartbeats 4000000 in
theorem cs_X2_read_no (l : Launch) {G : mG} {ad : Nat → Nat} {n : Nat} {r : Nat → Int32} {f : Nat → UInt32} {dv : Nat → Int32} {M0 : mM} {d : Nat} {x : Int32} (hd : sAd n ad) (hn : n ≤ 6) (hp : r (60 + d) = -1) (h1 : d < 4) : mMet l yX2_read (ws_ yX2_read cX2_read 7 (some .int)) (mRm 8 0 0) [.ref (ad 0), .int (nI d), .int x] G (pPre (sM G ad n r f dv M0)) (pPost (sM G ad n r f dv M0) (some (.int (-1)))) := by
  refine mMet.of (by decide +kernel) (Nat.le_of_ble_eq_true rfl) fun p e s m args below meth c A Q M hM0 F hnm hQ hM ls hl => ?_
  have hM0 : M = sM G ad n r f dv M0 := hM0
  subst hM0
  have hl : lv_has ls 7 [(0, .ref (ad 0)), (1, .int (nI d)), (2, .int x)] := hl
  have hpn : ¬ ¬ r (60 + d) = -1 := fun q => q hp
  refine lv_aload_n F.1.1 F.1.2.1 dX2_read_0 rfl (lv_at hl 0 rfl) ?_
  refine lv_iload_n F.1.1 F.1.2.1 dX2_read_1 rfl (lv_at hl 1 rfl) ?_
  refine mc_Va (As := [_]) F hM (cs_X2_hasPack l hd hn (by omega)) (cwV 1 F.1.2.2.2.2 (lw_V q819 q820 q821 q71 q822) rfl rfl rfl (by decide +kernel) (mRm_ok (by decide) (by decide))) (sM_0 hd) rfl rfl rfl rfl hl.1 rfl (Nat.le_of_ble_eq_true rfl) dX2_read_2 ⟨Nat.le_of_ble_eq_true rfl, Nat.le_of_ble_eq_true rfl⟩ (fun H locs hM => ?_)
  refine mr_ifneB F (tgt := 10) dX2_read_5 (by decide) (fun c5 => ?_) (fun c5 => ?_)
  · exact absurd c5 hpn
  · refine lv_iconst (v := -1) F.1.1 F.1.2.1 dX2_read_8 (by decide +kernel) ?_
    exact mr_iret F hQ hM ⟨rfl, rfl⟩ (Nat.le_of_ble_eq_true rfl) (Nat.le_of_ble_eq_true rfl) dX2_read_9
set_option maxHeartbeats 4000000 in
theorem cs_X2_seek_ok (l : Launch) {G : mG} {ad : Nat → Nat} {n : Nat} {r : Nat → Int32} {f : Nat → UInt32} {dv : Nat → Int32} {M0 : mM} {d : Nat} {x : Int32} (hd : sAd n ad) (hn : n ≤ 6) (hpn : ¬ r (60 + d) = -1) (h1 : d < 4) : mMet l yX2_seek (ws_ yX2_seek cX2_seek 4 (some .boolean)) (mRm 2 0 0) [.ref (ad 0), .int (nI d), .int x] G (pPre (sM G ad n r f dv M0)) (pPost (sM G ad n (va_up r (52 + d) x) f dv M0) (some (.int (nI 1)))) := by
  refine mMet.of (by decide +kernel) (Nat.le_of_ble_eq_true rfl) fun p e s m args below meth c A Q M hM0 F hnm hQ hM ls hl => ?_
  have hM0 : M = sM G ad n r f dv M0 := hM0
  subst hM0
  have hl : lv_has ls 4 [(0, .ref (ad 0)), (1, .int (nI d)), (2, .int x)] := hl
  refine lv_aload_n F.1.1 F.1.2.1 dX2_seek_0 rfl (lv_at hl 0 rfl) ?_
  refine lv_iload_n F.1.1 F.1.2.1 dX2_seek_1 rfl (lv_at hl 1 rfl) ?_
  refine mc_Va (As := [_]) F hM (cs_X2_hasPack l hd hn (by omega)) (cwV 1 F.1.2.2.2.2 (lw_V q819 q820 q821 q71 q822) rfl rfl rfl (by decide +kernel) (mRm_ok (by decide) (by decide))) (sM_0 hd) rfl rfl rfl rfl hl.1 rfl (Nat.le_of_ble_eq_true rfl) dX2_seek_2 ⟨Nat.le_of_ble_eq_true rfl, Nat.le_of_ble_eq_true rfl⟩ (fun H locs hM => ?_)
  refine lv_istore_n (lv' := [(3, _), (0, _), (1, _), (2, _)]) F.1.1 F.1.2.1 dX2_seek_5 rfl hl (by decide) rfl (fun ls hl => ?_)
  refine lv_iload_n F.1.1 F.1.2.1 dX2_seek_6 rfl (lv_at hl 0 rfl) ?_
  refine mr_ifeqB F (tgt := 20) dX2_seek_7 (by decide) (fun c7 => ?_) (fun c7 => ?_)
  · exact absurd hpn c7
  · refine lv_aload_n F.1.1 F.1.2.1 dX2_seek_10 rfl (lv_at hl 1 rfl) ?_
    refine cg1 F hM (sM_0 hd) 0 (by decide) q306 (fun x h => h) rfl dX2_seek_11 ?_
    refine lv_iload_n F.1.1 F.1.2.1 dX2_seek_14 rfl (lv_at hl 2 rfl) ?_
    refine sr_ld1 F hd hM (by omega) dX2_seek_15 ?_
    refine lv_iload_n F.1.1 F.1.2.1 dX2_seek_16 rfl (lv_at hl 3 rfl) ?_
    refine cp2 F hM (sM_D hd (by omega)) 4 (by decide) q283 (fun x h => h) rfl rfl rfl (Nat.le_of_ble_eq_true rfl) dX2_seek_17 (fun H locs hM => ?_)
    rw [su_D4 hd hn (by omega) rfl] at hM
    refine lv_iload_n F.1.1 F.1.2.1 dX2_seek_20 rfl (lv_at hl 0 rfl) ?_
    exact mr_zret F hQ (nZ_bI _) hM ⟨by rw [bI_t hpn] <;> rfl, rfl⟩ (Nat.le_of_ble_eq_true rfl) (Nat.le_of_ble_eq_true rfl) dX2_seek_21
set_option maxHeartbeats 4000000 in
theorem cs_X2_seek_no (l : Launch) {G : mG} {ad : Nat → Nat} {n : Nat} {r : Nat → Int32} {f : Nat → UInt32} {dv : Nat → Int32} {M0 : mM} {d : Nat} {x : Int32} (hd : sAd n ad) (hn : n ≤ 6) (hp : r (60 + d) = -1) (h1 : d < 4) : mMet l yX2_seek (ws_ yX2_seek cX2_seek 4 (some .boolean)) (mRm 2 0 0) [.ref (ad 0), .int (nI d), .int x] G (pPre (sM G ad n r f dv M0)) (pPost (sM G ad n r f dv M0) (some (.int (nI 0)))) := by
  refine mMet.of (by decide +kernel) (Nat.le_of_ble_eq_true rfl) fun p e s m args below meth c A Q M hM0 F hnm hQ hM ls hl => ?_
  have hM0 : M = sM G ad n r f dv M0 := hM0
  subst hM0
  have hl : lv_has ls 4 [(0, .ref (ad 0)), (1, .int (nI d)), (2, .int x)] := hl
  have hpn : ¬ ¬ r (60 + d) = -1 := fun q => q hp
  refine lv_aload_n F.1.1 F.1.2.1 dX2_seek_0 rfl (lv_at hl 0 rfl) ?_
  refine lv_iload_n F.1.1 F.1.2.1 dX2_seek_1 rfl (lv_at hl 1 rfl) ?_
  refine mc_Va (As := [_]) F hM (cs_X2_hasPack l hd hn (by omega)) (cwV 1 F.1.2.2.2.2 (lw_V q819 q820 q821 q71 q822) rfl rfl rfl (by decide +kernel) (mRm_ok (by decide) (by decide))) (sM_0 hd) rfl rfl rfl rfl hl.1 rfl (Nat.le_of_ble_eq_true rfl) dX2_seek_2 ⟨Nat.le_of_ble_eq_true rfl, Nat.le_of_ble_eq_true rfl⟩ (fun H locs hM => ?_)
  refine lv_istore_n (lv' := [(3, _), (0, _), (1, _), (2, _)]) F.1.1 F.1.2.1 dX2_seek_5 rfl hl (by decide) rfl (fun ls hl => ?_)
  refine lv_iload_n F.1.1 F.1.2.1 dX2_seek_6 rfl (lv_at hl 0 rfl) ?_
  refine mr_ifeqB F (tgt := 20) dX2_seek_7 (by decide) (fun c7 => ?_) (fun c7 => ?_)
  · refine lv_iload_n F.1.1 F.1.2.1 dX2_seek_20 rfl (lv_at hl 0 rfl) ?_
    exact mr_zret F hQ (nZ_bI _) hM ⟨by rw [bI_f hpn] <;> rfl, rfl⟩ (Nat.le_of_ble_eq_true rfl) (Nat.le_of_ble_eq_true rfl) dX2_seek_21
  · exact absurd c7 hpn
set_option maxHeartbeats 4000000 in
theorem cs_X2_unmount_ok (l : Launch) {G : mG} {ad : Nat → Nat} {n : Nat} {r : Nat → Int32} {f : Nat → UInt32} {dv : Nat → Int32} {M0 : mM} {d k : Nat} (hd : sAd n ad) (hn : n ≤ 6) (hp : r (60 + d) = nI k) (h1 : d < 4) (h3 : k < n) : mMet l yX2_unmount (ws_ yX2_unmount cX2_unmount 3 (some .boolean)) (mRm 4 0 0) [.ref (ad 0), .int (nI d)] G (pPre (sM G ad n r f dv M0)) (pPost (sM G ad n (nUnm r d) f (va_up dv k (-1)) M0) (some (.int (nI 1)))) := by
  refine mMet.of (by decide +kernel) (Nat.le_of_ble_eq_true rfl) fun p e s m args below meth c A Q M hM0 F hnm hQ hM ls hl => ?_
  have hM0 : M = sM G ad n r f dv M0 := hM0
  subst hM0
  have hl : lv_has ls 3 [(0, .ref (ad 0)), (1, .int (nI d))] := hl
  have hpn : ¬ r (60 + d) = -1 := by rw [hp]; exact m1_ne_nI (by omega)
  refine lv_aload_n F.1.1 F.1.2.1 dX2_unmount_0 rfl (lv_at hl 0 rfl) ?_
  refine lv_iload_n F.1.1 F.1.2.1 dX2_unmount_1 rfl (lv_at hl 1 rfl) ?_
  refine mc_Va (As := [_]) F hM (cs_X2_hasPack l hd hn (by omega)) (cwV 1 F.1.2.2.2.2 (lw_V q819 q820 q821 q71 q822) rfl rfl rfl (by decide +kernel) (mRm_ok (by decide) (by decide))) (sM_0 hd) rfl rfl rfl rfl hl.1 rfl (Nat.le_of_ble_eq_true rfl) dX2_unmount_2 ⟨Nat.le_of_ble_eq_true rfl, Nat.le_of_ble_eq_true rfl⟩ (fun H locs hM => ?_)
  refine lv_istore_n (lv' := [(2, _), (0, _), (1, _)]) F.1.1 F.1.2.1 dX2_unmount_5 rfl hl (by decide) rfl (fun ls hl => ?_)
  refine lv_iload_n F.1.1 F.1.2.1 dX2_unmount_6 rfl (lv_at hl 0 rfl) ?_
  refine mr_ifeqB F (tgt := 55) dX2_unmount_7 (by decide) (fun c7 => ?_) (fun c7 => ?_)
  · exact absurd hpn c7
  · refine lv_aload_n F.1.1 F.1.2.1 dX2_unmount_10 rfl (lv_at hl 1 rfl) ?_
    refine cg1 F hM (sM_0 hd) 1 (by decide) q308 (fun x h => h) rfl dX2_unmount_11 ?_
    refine lv_aload_n F.1.1 F.1.2.1 dX2_unmount_14 rfl (lv_at hl 1 rfl) ?_
    refine cg1 F hM (sM_0 hd) 0 (by decide) q306 (fun x h => h) rfl dX2_unmount_15 ?_
    refine lv_iload_n F.1.1 F.1.2.1 dX2_unmount_18 rfl (lv_at hl 2 rfl) ?_
    refine sr_ld1 F hd hM (by omega) dX2_unmount_19 ?_
    refine cg2 F hM (sM_D hd (by omega)) 6 (by decide) q289 (fun x h => h) (congrArg (fun z => some (Value.int z)) hp) dX2_unmount_20 ?_
    refine mc_Fa (As := [_]) F hM (cs_J2_get l hd hn (by omega)) (va_cwF 1 F.1.2.2.2.2 (lw_F q827 q830 q832 q74 q834) rfl rfl rfl (mFw F (by decide) q833 q831 q407) (by decide +kernel) (mRm_ok (by decide) (by decide))) (sM_2 hd) rfl rfl (F.2.1.1 9 _ rfl).2 rfl rfl hl.1 rfl (Nat.le_of_ble_eq_true rfl) dX2_unmount_23 ⟨Nat.le_of_ble_eq_true rfl, Nat.le_of_ble_eq_true rfl⟩ (fun H locs hM => ?_)
    refine mr_castS F hM (sM_P hd hn (by omega)) (ci := 6) rfl q843 dX2_unmount_28 ?_
    refine lv_iconst (v := -1) F.1.1 F.1.2.1 dX2_unmount_31 (by decide +kernel) ?_
    refine cp6 F hM (sM_P hd hn (by omega)) 2 (by decide) q1132 (fun x h => h) rfl rfl rfl (Nat.le_of_ble_eq_true rfl) dX2_unmount_32 (fun H locs hM => ?_)
    rw [su_P2 hd hn (by omega)] at hM
    refine lv_aload_n F.1.1 F.1.2.1 dX2_unmount_35 rfl (lv_at hl 1 rfl) ?_
    refine cg1 F hM (sM_0 hd) 0 (by decide) q306 (fun x h => h) rfl dX2_unmount_36 ?_
    refine lv_iload_n F.1.1 F.1.2.1 dX2_unmount_39 rfl (lv_at hl 2 rfl) ?_
    refine sr_ld1 F hd hM (by omega) dX2_unmount_40 ?_
    refine lv_iconst (v := -1) F.1.1 F.1.2.1 dX2_unmount_41 (by decide +kernel) ?_
    refine cp2 F hM (sM_D hd (by omega)) 6 (by decide) q289 (fun x h => h) rfl rfl rfl (Nat.le_of_ble_eq_true rfl) dX2_unmount_42 (fun H locs hM => ?_)
    rw [su_D6 hd hn (by omega) rfl] at hM
    refine lv_aload_n F.1.1 F.1.2.1 dX2_unmount_45 rfl (lv_at hl 1 rfl) ?_
    refine cg1 F hM (sM_0 hd) 0 (by decide) q306 (fun x h => h) rfl dX2_unmount_46 ?_
    refine lv_iload_n F.1.1 F.1.2.1 dX2_unmount_49 rfl (lv_at hl 2 rfl) ?_
    refine sr_ld1 F hd hM (by omega) dX2_unmount_50 ?_
    refine mr_iconst F 0 dX2_unmount_51 (by decide +kernel) ?_
    refine cp2 F hM (sM_D hd (by omega)) 4 (by decide) q283 (fun x h => h) rfl rfl rfl (Nat.le_of_ble_eq_true rfl) dX2_unmount_52 (fun H locs hM => ?_)
    rw [su_D4 hd hn (by omega) rfl] at hM
    refine lv_iload_n F.1.1 F.1.2.1 dX2_unmount_55 rfl (lv_at hl 0 rfl) ?_
    exact mr_zret F hQ (nZ_bI _) hM ⟨by rw [bI_t hpn] <;> rfl, rfl⟩ (Nat.le_of_ble_eq_true rfl) (Nat.le_of_ble_eq_true rfl) dX2_unmount_56
set_option maxHeartbeats 4000000 in
theorem cs_X2_unmount_no (l : Launch) {G : mG} {ad : Nat → Nat} {n : Nat} {r : Nat → Int32} {f : Nat → UInt32} {dv : Nat → Int32} {M0 : mM} {d : Nat} (hd : sAd n ad) (hn : n ≤ 6) (hp : r (60 + d) = -1) (h1 : d < 4) : mMet l yX2_unmount (ws_ yX2_unmount cX2_unmount 3 (some .boolean)) (mRm 4 0 0) [.ref (ad 0), .int (nI d)] G (pPre (sM G ad n r f dv M0)) (pPost (sM G ad n r f dv M0) (some (.int (nI 0)))) := by
  refine mMet.of (by decide +kernel) (Nat.le_of_ble_eq_true rfl) fun p e s m args below meth c A Q M hM0 F hnm hQ hM ls hl => ?_
  have hM0 : M = sM G ad n r f dv M0 := hM0
  subst hM0
  have hl : lv_has ls 3 [(0, .ref (ad 0)), (1, .int (nI d))] := hl
  have hpn : ¬ ¬ r (60 + d) = -1 := fun q => q hp
  refine lv_aload_n F.1.1 F.1.2.1 dX2_unmount_0 rfl (lv_at hl 0 rfl) ?_
  refine lv_iload_n F.1.1 F.1.2.1 dX2_unmount_1 rfl (lv_at hl 1 rfl) ?_
  refine mc_Va (As := [_]) F hM (cs_X2_hasPack l hd hn (by omega)) (cwV 1 F.1.2.2.2.2 (lw_V q819 q820 q821 q71 q822) rfl rfl rfl (by decide +kernel) (mRm_ok (by decide) (by decide))) (sM_0 hd) rfl rfl rfl rfl hl.1 rfl (Nat.le_of_ble_eq_true rfl) dX2_unmount_2 ⟨Nat.le_of_ble_eq_true rfl, Nat.le_of_ble_eq_true rfl⟩ (fun H locs hM => ?_)
  refine lv_istore_n (lv' := [(2, _), (0, _), (1, _)]) F.1.1 F.1.2.1 dX2_unmount_5 rfl hl (by decide) rfl (fun ls hl => ?_)
  refine lv_iload_n F.1.1 F.1.2.1 dX2_unmount_6 rfl (lv_at hl 0 rfl) ?_
  refine mr_ifeqB F (tgt := 55) dX2_unmount_7 (by decide) (fun c7 => ?_) (fun c7 => ?_)
  · refine lv_iload_n F.1.1 F.1.2.1 dX2_unmount_55 rfl (lv_at hl 0 rfl) ?_
    exact mr_zret F hQ (nZ_bI _) hM ⟨by rw [bI_f hpn] <;> rfl, rfl⟩ (Nat.le_of_ble_eq_true rfl) (Nat.le_of_ble_eq_true rfl) dX2_unmount_56
  · exact absurd c7 hpn
set_option maxHeartbeats 4000000 in
theorem cs_X2_setServo_ok (l : Launch) {G : mG} {ad : Nat → Nat} {n : Nat} {r : Nat → Int32} {f : Nat → UInt32} {dv : Nat → Int32} {M0 : mM} {d : Nat} {o : Int32} (hd : sAd n ad) (hn : n ≤ 6) (hk : ¬ (¬ o = 0 ∧ r (16 + (4 * d + 3)) = nI 1)) (hs : r (16 + (4 * d + 3)) = nI 0 ∨ r (16 + (4 * d + 3)) = nI 1) (hob : o = nI 0 ∨ o = nI 1) (h1 : d < 4) : mMet l yX2_setServo (ws_ yX2_setServo cX2_setServo 4 (some .boolean)) (mRm 1 0 0) [.ref (ad 0), .int (nI d), .int o] G (pPre (sM G ad n r f dv M0)) (pPost (sM G ad n (va_up r (56 + d) o) f dv M0) (some (.int (nI 1)))) := by
  refine mMet.of (by decide +kernel) (Nat.le_of_ble_eq_true rfl) fun p e s m args below meth c A Q M hM0 F hnm hQ hM ls hl => ?_
  have hM0 : M = sM G ad n r f dv M0 := hM0
  subst hM0
  have hl : lv_has ls 4 [(0, .ref (ad 0)), (1, .int (nI d)), (2, .int o)] := hl
  refine lv_iload_n F.1.1 F.1.2.1 dX2_setServo_0 rfl (lv_at hl 2 rfl) ?_
  refine lv_if_eq (tgt := 19) F.1.1 F.1.2.1 dX2_setServo_1 (by decide) (fun c1 => ?_) (fun c1 => ?_)
  · refine mr_iconst F 1 dX2_setServo_19 (by decide +kernel) ?_
    refine lv_goto (tgt := 24) F.1.1 F.1.2.1 dX2_setServo_20 (by decide) ?_
    refine lv_istore_n (lv' := [(3, _), (0, _), (1, _), (2, _)]) F.1.1 F.1.2.1 dX2_setServo_24 rfl hl (by decide) rfl (fun ls hl => ?_)
    refine lv_iload_n F.1.1 F.1.2.1 dX2_setServo_25 rfl (lv_at hl 0 rfl) ?_
    refine mr_ifeqN F (tgt := 39) dX2_setServo_26 (by decide) (by omega) (fun c26 => ?_) (fun c26 => ?_)
    · exact absurd c26 (by decide)
    · refine lv_aload_n F.1.1 F.1.2.1 dX2_setServo_29 rfl (lv_at hl 1 rfl) ?_
      refine cg1 F hM (sM_0 hd) 0 (by decide) q306 (fun x h => h) rfl dX2_setServo_30 ?_
      refine lv_iload_n F.1.1 F.1.2.1 dX2_setServo_33 rfl (lv_at hl 2 rfl) ?_
      refine sr_ld1 F hd hM (by omega) dX2_setServo_34 ?_
      refine lv_iload_n F.1.1 F.1.2.1 dX2_setServo_35 rfl (lv_at hl 3 rfl) ?_
      refine cp2 F hM (sM_D hd (by omega)) 5 (by decide) q286 (fun x h => h) rfl (nZ01 hob) (fZ01 hob) (Nat.le_of_ble_eq_true rfl) dX2_setServo_36 (fun H locs hM => ?_)
      rw [su_D5 hd hn (by omega) rfl] at hM
      refine lv_iload_n F.1.1 F.1.2.1 dX2_setServo_39 rfl (lv_at hl 0 rfl) ?_
      exact mr_zret F hQ (by first | rfl | exact nZ_bI _) hM ⟨rfl, rfl⟩ (Nat.le_of_ble_eq_true rfl) (Nat.le_of_ble_eq_true rfl) dX2_setServo_40
  · refine lv_aload_n F.1.1 F.1.2.1 dX2_setServo_4 rfl (lv_at hl 0 rfl) ?_
    refine cg1 F hM (sM_0 hd) 0 (by decide) q306 (fun x h => h) rfl dX2_setServo_5 ?_
    refine lv_iload_n F.1.1 F.1.2.1 dX2_setServo_8 rfl (lv_at hl 1 rfl) ?_
    refine sr_ld1 F hd hM (by omega) dX2_setServo_9 ?_
    refine cg2 F hM (sM_D hd (by omega)) 1 (by decide) q275 (fun x h => h) rfl dX2_setServo_10 ?_
    refine cg3 F hM (sM_HS hd (by omega)) 1 (by decide) q172 (fun x h => h) rfl dX2_setServo_13 ?_
    refine lv_if_ne (tgt := 23) F.1.1 F.1.2.1 dX2_setServo_16 (by decide) (fun c16 => ?_) (fun c16 => ?_)
    · exact absurd ⟨c1, hs.resolve_left c16⟩ hk
    · refine mr_iconst F 1 dX2_setServo_19 (by decide +kernel) ?_
      refine lv_goto (tgt := 24) F.1.1 F.1.2.1 dX2_setServo_20 (by decide) ?_
      refine lv_istore_n (lv' := [(3, _), (0, _), (1, _), (2, _)]) F.1.1 F.1.2.1 dX2_setServo_24 rfl hl (by decide) rfl (fun ls hl => ?_)
      refine lv_iload_n F.1.1 F.1.2.1 dX2_setServo_25 rfl (lv_at hl 0 rfl) ?_
      refine mr_ifeqN F (tgt := 39) dX2_setServo_26 (by decide) (by omega) (fun c26 => ?_) (fun c26 => ?_)
      · exact absurd c26 (by decide)
      · refine lv_aload_n F.1.1 F.1.2.1 dX2_setServo_29 rfl (lv_at hl 1 rfl) ?_
        refine cg1 F hM (sM_0 hd) 0 (by decide) q306 (fun x h => h) rfl dX2_setServo_30 ?_
        refine lv_iload_n F.1.1 F.1.2.1 dX2_setServo_33 rfl (lv_at hl 2 rfl) ?_
        refine sr_ld1 F hd hM (by omega) dX2_setServo_34 ?_
        refine lv_iload_n F.1.1 F.1.2.1 dX2_setServo_35 rfl (lv_at hl 3 rfl) ?_
        refine cp2 F hM (sM_D hd (by omega)) 5 (by decide) q286 (fun x h => h) rfl (nZ01 hob) (fZ01 hob) (Nat.le_of_ble_eq_true rfl) dX2_setServo_36 (fun H locs hM => ?_)
        rw [su_D5 hd hn (by omega) rfl] at hM
        refine lv_iload_n F.1.1 F.1.2.1 dX2_setServo_39 rfl (lv_at hl 0 rfl) ?_
        exact mr_zret F hQ (by first | rfl | exact nZ_bI _) hM ⟨rfl, rfl⟩ (Nat.le_of_ble_eq_true rfl) (Nat.le_of_ble_eq_true rfl) dX2_setServo_40
set_option maxHeartbeats 4000000 in
theorem cs_X2_setServo_no (l : Launch) {G : mG} {ad : Nat → Nat} {n : Nat} {r : Nat → Int32} {f : Nat → UInt32} {dv : Nat → Int32} {M0 : mM} {d : Nat} {o : Int32} (hd : sAd n ad) (hn : n ≤ 6) (hk : ¬ o = 0 ∧ r (16 + (4 * d + 3)) = nI 1) (h1 : d < 4) : mMet l yX2_setServo (ws_ yX2_setServo cX2_setServo 4 (some .boolean)) (mRm 1 0 0) [.ref (ad 0), .int (nI d), .int o] G (pPre (sM G ad n r f dv M0)) (pPost (sM G ad n r f dv M0) (some (.int (nI 0)))) := by
  refine mMet.of (by decide +kernel) (Nat.le_of_ble_eq_true rfl) fun p e s m args below meth c A Q M hM0 F hnm hQ hM ls hl => ?_
  have hM0 : M = sM G ad n r f dv M0 := hM0
  subst hM0
  have hl : lv_has ls 4 [(0, .ref (ad 0)), (1, .int (nI d)), (2, .int o)] := hl
  refine lv_iload_n F.1.1 F.1.2.1 dX2_setServo_0 rfl (lv_at hl 2 rfl) ?_
  refine lv_if_eq (tgt := 19) F.1.1 F.1.2.1 dX2_setServo_1 (by decide) (fun c1 => ?_) (fun c1 => ?_)
  · exact absurd c1 hk.1
  · refine lv_aload_n F.1.1 F.1.2.1 dX2_setServo_4 rfl (lv_at hl 0 rfl) ?_
    refine cg1 F hM (sM_0 hd) 0 (by decide) q306 (fun x h => h) rfl dX2_setServo_5 ?_
    refine lv_iload_n F.1.1 F.1.2.1 dX2_setServo_8 rfl (lv_at hl 1 rfl) ?_
    refine sr_ld1 F hd hM (by omega) dX2_setServo_9 ?_
    refine cg2 F hM (sM_D hd (by omega)) 1 (by decide) q275 (fun x h => h) rfl dX2_setServo_10 ?_
    refine cg3 F hM (sM_HS hd (by omega)) 1 (by decide) q172 (fun x h => h) rfl dX2_setServo_13 ?_
    refine lv_if_ne (tgt := 23) F.1.1 F.1.2.1 dX2_setServo_16 (by decide) (fun c16 => ?_) (fun c16 => ?_)
    · refine mr_iconst F 0 dX2_setServo_23 (by decide +kernel) ?_
      refine lv_istore_n (lv' := [(3, _), (0, _), (1, _), (2, _)]) F.1.1 F.1.2.1 dX2_setServo_24 rfl hl (by decide) rfl (fun ls hl => ?_)
      refine lv_iload_n F.1.1 F.1.2.1 dX2_setServo_25 rfl (lv_at hl 0 rfl) ?_
      refine mr_ifeqN F (tgt := 39) dX2_setServo_26 (by decide) (by omega) (fun c26 => ?_) (fun c26 => ?_)
      · refine lv_iload_n F.1.1 F.1.2.1 dX2_setServo_39 rfl (lv_at hl 0 rfl) ?_
        exact mr_zret F hQ (by first | rfl | exact nZ_bI _) hM ⟨rfl, rfl⟩ (Nat.le_of_ble_eq_true rfl) (Nat.le_of_ble_eq_true rfl) dX2_setServo_40
      · exact absurd rfl c26
    · exact absurd (hk.2.symm.trans c16) (by decide)
set_option maxHeartbeats 4000000 in
theorem cs_X2_mend_D (l : Launch) {G : mG} {ad : Nat → Nat} {n : Nat} {r : Nat → Int32} {f : Nat → UInt32} {dv : Nat → Int32} {M0 : mM} {d h : Nat} (hd : sAd n ad) (hn : n ≤ 6) (h1 : d < 4) (h2 : h < 3) : mMet l yX2_mend (ws_ yX2_mend cX2_mend 3 (some .boolean)) (mRm 2 0 0) [.ref (ad 0), .int (nI d), .int (nI h)] G (pPre (sM G ad n r f dv M0)) (pPost (sM G ad n (nMend r d h) f dv M0) (some (.int (nI 1)))) := by
  refine mMet.of (by decide +kernel) (Nat.le_of_ble_eq_true rfl) fun p e s m args below meth c A Q M hM0 F hnm hQ hM ls hl => ?_
  have hM0 : M = sM G ad n r f dv M0 := hM0
  subst hM0
  have hl : lv_has ls 3 [(0, .ref (ad 0)), (1, .int (nI d)), (2, .int (nI h))] := hl
  refine lv_aload_n F.1.1 F.1.2.1 dX2_mend_0 rfl (lv_at hl 0 rfl) ?_
  refine cg1 F hM (sM_0 hd) 0 (by decide) q306 (fun x h => h) rfl dX2_mend_1 ?_
  refine lv_iload_n F.1.1 F.1.2.1 dX2_mend_4 rfl (lv_at hl 1 rfl) ?_
  refine sr_ld1 F hd hM (by omega) dX2_mend_5 ?_
  refine lv_iload_n F.1.1 F.1.2.1 dX2_mend_6 rfl (lv_at hl 2 rfl) ?_
  refine mc_Va (As := [_]) F hM (cs_X3_head_D l hd hn (by omega) (by omega)) (cwV 1 F.1.2.2.2.2 (lw_V q1009 q886 q887 q75 q888) rfl rfl rfl (by decide +kernel) (mRm_ok (by decide) (by decide))) (sM_D hd (by omega)) rfl rfl rfl rfl hl.1 rfl (Nat.le_of_ble_eq_true rfl) dX2_mend_7 ⟨Nat.le_of_ble_eq_true rfl, Nat.le_of_ble_eq_true rfl⟩ (fun H locs hM => ?_)
  refine mc_Uv (As := []) F hM (cs_X4_mend_rHD l hd hn (by omega) (by omega)) (va_cwU (owner := "DiskPacks$Head") 0 F.1.2.2.2.2 (lw_U q1010 q1012 q1013 q1011 q76 q1015) rfl rfl rfl rfl (by decide +kernel) (mRm_ok (by decide) (by decide))) (sM_HD hd (by omega) (by omega)) rfl rfl rfl rfl hl.1 rfl (Nat.le_of_ble_eq_true rfl) dX2_mend_10 ⟨Nat.le_of_ble_eq_true rfl, Nat.le_of_ble_eq_true rfl⟩ (fun H locs hM => ?_)
  refine mr_iconst F 1 dX2_mend_13 (by decide +kernel) ?_
  exact mr_zret F hQ (by first | rfl | exact nZ_bI _) hM ⟨rfl, rfl⟩ (Nat.le_of_ble_eq_true rfl) (Nat.le_of_ble_eq_true rfl) dX2_mend_14
set_option maxHeartbeats 4000000 in
theorem cs_X2_strike_D (l : Launch) {G : mG} {ad : Nat → Nat} {n : Nat} {r : Nat → Int32} {f : Nat → UInt32} {dv : Nat → Int32} {M0 : mM} {d h : Nat} (hd : sAd n ad) (hn : n ≤ 6) (hs : r (56 + d) = nI 0 ∨ r (56 + d) = nI 1) (h1 : d < 4) (h2 : h < 3) : mMet l yX2_strike (ws_ yX2_strike cX2_strike 3 none) (mRm 2 0 0) [.ref (ad 0), .int (nI d), .int (nI h)] G (pPre (sM G ad n r f dv M0)) (pPost (sM G ad n (nStr r d h) f dv M0) (none)) := by
  refine mMet.of (by decide +kernel) (Nat.le_of_ble_eq_true rfl) fun p e s m args below meth c A Q M hM0 F hnm hQ hM ls hl => ?_
  have hM0 : M = sM G ad n r f dv M0 := hM0
  subst hM0
  have hl : lv_has ls 3 [(0, .ref (ad 0)), (1, .int (nI d)), (2, .int (nI h))] := hl
  refine lv_aload_n F.1.1 F.1.2.1 dX2_strike_0 rfl (lv_at hl 0 rfl) ?_
  refine cg1 F hM (sM_0 hd) 0 (by decide) q306 (fun x h => h) rfl dX2_strike_1 ?_
  refine lv_iload_n F.1.1 F.1.2.1 dX2_strike_4 rfl (lv_at hl 1 rfl) ?_
  refine sr_ld1 F hd hM (by omega) dX2_strike_5 ?_
  refine lv_iload_n F.1.1 F.1.2.1 dX2_strike_6 rfl (lv_at hl 2 rfl) ?_
  refine mc_Va (As := [_]) F hM (cs_X3_head_D l hd hn (by omega) (by omega)) (cwV 1 F.1.2.2.2.2 (lw_V q1009 q886 q887 q75 q888) rfl rfl rfl (by decide +kernel) (mRm_ok (by decide) (by decide))) (sM_D hd (by omega)) rfl rfl rfl rfl hl.1 rfl (Nat.le_of_ble_eq_true rfl) dX2_strike_7 ⟨Nat.le_of_ble_eq_true rfl, Nat.le_of_ble_eq_true rfl⟩ (fun H locs hM => ?_)
  refine mc_Uv (As := []) F hM (cs_X4_strike_rHD l hd hn (by omega) (by omega)) (va_cwU (owner := "DiskPacks$Head") 0 F.1.2.2.2.2 (lw_U q1438 q2159 q2160 q933 q76 q934) rfl rfl rfl rfl (by decide +kernel) (mRm_ok (by decide) (by decide))) (sM_HD hd (by omega) (by omega)) rfl rfl rfl rfl hl.1 rfl (Nat.le_of_ble_eq_true rfl) dX2_strike_10 ⟨Nat.le_of_ble_eq_true rfl, Nat.le_of_ble_eq_true rfl⟩ (fun H locs hM => ?_)
  refine lv_aload_n F.1.1 F.1.2.1 dX2_strike_13 rfl (lv_at hl 0 rfl) ?_
  refine cg1 F hM (sM_0 hd) 0 (by decide) q306 (fun x h => h) rfl dX2_strike_14 ?_
  refine lv_iload_n F.1.1 F.1.2.1 dX2_strike_17 rfl (lv_at hl 1 rfl) ?_
  refine sr_ld1 F hd hM (by omega) dX2_strike_18 ?_
  refine lv_dup F.1.1 F.1.2.1 dX2_strike_19 rfl ?_
  refine cg2 F hM (sM_D hd (by omega)) 5 (by decide) q286 (fun x h => h) (congrArg (fun z => some (Value.int z)) ((va_up_ne _ _ (by omega)).trans (va_up_ne _ _ (by omega)))) dX2_strike_20 ?_
  refine lv_iload_n F.1.1 F.1.2.1 dX2_strike_23 rfl (lv_at hl 2 rfl) ?_
  refine mr_iconst F 3 dX2_strike_24 (by decide +kernel) ?_
  refine mr_icmp_eqN F (tgt := 32) dX2_strike_25 (by decide) (by omega) (by omega) (fun c25 => ?_) (fun c25 => ?_)
  · exact absurd c25 (by omega)
  · refine mr_iconst F 1 dX2_strike_28 (by decide +kernel) ?_
    refine lv_goto (tgt := 33) F.1.1 F.1.2.1 dX2_strike_29 (by decide) ?_
    refine lv_iand F.1.1 F.1.2.1 dX2_strike_33 ?_
    have hE : r (56 + d) &&& nI 1 = r (56 + d) := and01 hs
    have hS : nStr r d h = va_up (va_up (va_up r (16 + (4 * d + h)) (nI 1)) (32 + (4 * d + h)) (nI 0)) (56 + d) (r (56 + d)) := by unfold nStr; exact if_neg (by omega)
    refine cp2 F hM (sM_D hd (by omega)) 5 (by decide) q286 (fun x h => h) rfl (by rw [hE]; first | exact nZ01 hs | rfl) (by rw [hE]; first | exact fZ01 hs | rfl) (Nat.le_of_ble_eq_true rfl) dX2_strike_34 (fun H locs hM => ?_)
    rw [su_D5 hd hn (by omega) rfl] at hM
    exact mr_vret F hQ hM ⟨rfl, by rw [hS, hE]⟩ (Nat.le_of_ble_eq_true rfl) (Nat.le_of_ble_eq_true rfl) dX2_strike_37
set_option maxHeartbeats 4000000 in
theorem cs_X2_mend_S (l : Launch) {G : mG} {ad : Nat → Nat} {n : Nat} {r : Nat → Int32} {f : Nat → UInt32} {dv : Nat → Int32} {M0 : mM} {d : Nat} (hd : sAd n ad) (hn : n ≤ 6) (h1 : d < 4) : mMet l yX2_mend (ws_ yX2_mend cX2_mend 3 (some .boolean)) (mRm 2 0 0) [.ref (ad 0), .int (nI d), .int (nI 3)] G (pPre (sM G ad n r f dv M0)) (pPost (sM G ad n (nMend r d 3) f dv M0) (some (.int (nI 1)))) := by
  refine mMet.of (by decide +kernel) (Nat.le_of_ble_eq_true rfl) fun p e s m args below meth c A Q M hM0 F hnm hQ hM ls hl => ?_
  have hM0 : M = sM G ad n r f dv M0 := hM0
  subst hM0
  have hl : lv_has ls 3 [(0, .ref (ad 0)), (1, .int (nI d)), (2, .int (nI 3))] := hl
  refine lv_aload_n F.1.1 F.1.2.1 dX2_mend_0 rfl (lv_at hl 0 rfl) ?_
  refine cg1 F hM (sM_0 hd) 0 (by decide) q306 (fun x h => h) rfl dX2_mend_1 ?_
  refine lv_iload_n F.1.1 F.1.2.1 dX2_mend_4 rfl (lv_at hl 1 rfl) ?_
  refine sr_ld1 F hd hM (by omega) dX2_mend_5 ?_
  refine lv_iload_n F.1.1 F.1.2.1 dX2_mend_6 rfl (lv_at hl 2 rfl) ?_
  refine mc_Va (As := [_]) F hM (cs_X3_head_S l hd hn (by omega)) (cwV 1 F.1.2.2.2.2 (lw_V q1009 q886 q887 q75 q888) rfl rfl rfl (by decide +kernel) (mRm_ok (by decide) (by decide))) (sM_D hd (by omega)) rfl rfl rfl rfl hl.1 rfl (Nat.le_of_ble_eq_true rfl) dX2_mend_7 ⟨Nat.le_of_ble_eq_true rfl, Nat.le_of_ble_eq_true rfl⟩ (fun H locs hM => ?_)
  refine mc_Uv (As := []) F hM (cs_X4_mend_rHS l hd hn (by omega)) (va_cwU (owner := "DiskPacks$Head") 0 F.1.2.2.2.2 (lw_U q1010 q1012 q1014 q1011 q76 q1015) rfl rfl rfl rfl (by decide +kernel) (mRm_ok (by decide) (by decide))) (sM_HS hd (by omega)) rfl rfl rfl rfl hl.1 rfl (Nat.le_of_ble_eq_true rfl) dX2_mend_10 ⟨Nat.le_of_ble_eq_true rfl, Nat.le_of_ble_eq_true rfl⟩ (fun H locs hM => ?_)
  refine mr_iconst F 1 dX2_mend_13 (by decide +kernel) ?_
  exact mr_zret F hQ (by first | rfl | exact nZ_bI _) hM ⟨rfl, rfl⟩ (Nat.le_of_ble_eq_true rfl) (Nat.le_of_ble_eq_true rfl) dX2_mend_14
set_option maxHeartbeats 4000000 in
theorem cs_X2_strike_S (l : Launch) {G : mG} {ad : Nat → Nat} {n : Nat} {r : Nat → Int32} {f : Nat → UInt32} {dv : Nat → Int32} {M0 : mM} {d : Nat} (hd : sAd n ad) (hn : n ≤ 6) (hs : r (56 + d) = nI 0 ∨ r (56 + d) = nI 1) (h1 : d < 4) : mMet l yX2_strike (ws_ yX2_strike cX2_strike 3 none) (mRm 2 0 0) [.ref (ad 0), .int (nI d), .int (nI 3)] G (pPre (sM G ad n r f dv M0)) (pPost (sM G ad n (nStr r d 3) f dv M0) (none)) := by
  refine mMet.of (by decide +kernel) (Nat.le_of_ble_eq_true rfl) fun p e s m args below meth c A Q M hM0 F hnm hQ hM ls hl => ?_
  have hM0 : M = sM G ad n r f dv M0 := hM0
  subst hM0
  have hl : lv_has ls 3 [(0, .ref (ad 0)), (1, .int (nI d)), (2, .int (nI 3))] := hl
  refine lv_aload_n F.1.1 F.1.2.1 dX2_strike_0 rfl (lv_at hl 0 rfl) ?_
  refine cg1 F hM (sM_0 hd) 0 (by decide) q306 (fun x h => h) rfl dX2_strike_1 ?_
  refine lv_iload_n F.1.1 F.1.2.1 dX2_strike_4 rfl (lv_at hl 1 rfl) ?_
  refine sr_ld1 F hd hM (by omega) dX2_strike_5 ?_
  refine lv_iload_n F.1.1 F.1.2.1 dX2_strike_6 rfl (lv_at hl 2 rfl) ?_
  refine mc_Va (As := [_]) F hM (cs_X3_head_S l hd hn (by omega)) (cwV 1 F.1.2.2.2.2 (lw_V q1009 q886 q887 q75 q888) rfl rfl rfl (by decide +kernel) (mRm_ok (by decide) (by decide))) (sM_D hd (by omega)) rfl rfl rfl rfl hl.1 rfl (Nat.le_of_ble_eq_true rfl) dX2_strike_7 ⟨Nat.le_of_ble_eq_true rfl, Nat.le_of_ble_eq_true rfl⟩ (fun H locs hM => ?_)
  refine mc_Uv (As := []) F hM (cs_X4_strike_rHS l hd hn (by omega)) (va_cwU (owner := "DiskPacks$Head") 0 F.1.2.2.2.2 (lw_U q1438 q2159 q2161 q933 q76 q934) rfl rfl rfl rfl (by decide +kernel) (mRm_ok (by decide) (by decide))) (sM_HS hd (by omega)) rfl rfl rfl rfl hl.1 rfl (Nat.le_of_ble_eq_true rfl) dX2_strike_10 ⟨Nat.le_of_ble_eq_true rfl, Nat.le_of_ble_eq_true rfl⟩ (fun H locs hM => ?_)
  refine lv_aload_n F.1.1 F.1.2.1 dX2_strike_13 rfl (lv_at hl 0 rfl) ?_
  refine cg1 F hM (sM_0 hd) 0 (by decide) q306 (fun x h => h) rfl dX2_strike_14 ?_
  refine lv_iload_n F.1.1 F.1.2.1 dX2_strike_17 rfl (lv_at hl 1 rfl) ?_
  refine sr_ld1 F hd hM (by omega) dX2_strike_18 ?_
  refine lv_dup F.1.1 F.1.2.1 dX2_strike_19 rfl ?_
  refine cg2 F hM (sM_D hd (by omega)) 5 (by decide) q286 (fun x h => h) (congrArg (fun z => some (Value.int z)) ((va_up_ne _ _ (by omega)).trans (va_up_ne _ _ (by omega)))) dX2_strike_20 ?_
  refine lv_iload_n F.1.1 F.1.2.1 dX2_strike_23 rfl (lv_at hl 2 rfl) ?_
  refine mr_iconst F 3 dX2_strike_24 (by decide +kernel) ?_
  refine mr_icmp_eqN F (tgt := 32) dX2_strike_25 (by decide) (by omega) (by omega) (fun c25 => ?_) (fun c25 => ?_)
  · refine mr_iconst F 0 dX2_strike_32 (by decide +kernel) ?_
    refine lv_iand F.1.1 F.1.2.1 dX2_strike_33 ?_
    have hE : r (56 + d) &&& nI 0 = nI 0 := and00 hs
    have hS : nStr r d 3 = va_up (va_up (va_up r (16 + (4 * d + 3)) (nI 1)) (32 + (4 * d + 3)) (nI 0)) (56 + d) (nI 0) := by unfold nStr; exact if_pos rfl
    refine cp2 F hM (sM_D hd (by omega)) 5 (by decide) q286 (fun x h => h) rfl (by rw [hE]; first | exact nZ01 hs | rfl) (by rw [hE]; first | exact fZ01 hs | rfl) (Nat.le_of_ble_eq_true rfl) dX2_strike_34 (fun H locs hM => ?_)
    rw [su_D5 hd hn (by omega) rfl] at hM
    exact mr_vret F hQ hM ⟨rfl, by rw [hS, hE]⟩ (Nat.le_of_ble_eq_true rfl) (Nat.le_of_ble_eq_true rfl) dX2_strike_37
  · exact absurd rfl c25
