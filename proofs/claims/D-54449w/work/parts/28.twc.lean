/-! THE REFERENCE: refusals -/
set_option maxHeartbeats 4000000 in
theorem ct_servoRefusal (l : Launch) {G : mG} {ad : Nat → Nat} {g r : Nat → Int32} {f : Nat → UInt32} {h : tH} {b : Nat → Int32} {M0 : mM} {x o : Int32} (hd : tAd ad) : mMet l yX7_servoRefusal (ws_ yX7_servoRefusal cX7_servoRefusal 3 (some .int)) (mRm 3 0 0) [.ref (ad 0), .int x, .int o] G (pPre (tM G ad g r f h b M0)) (pPost (tM G ad g r f h b M0) (some (.int (nI (kServo r x o))))) := by
  refine mMet.of (by decide +kernel) (Nat.le_of_ble_eq_true rfl) fun p e s m args below meth c A Q M hM0 F hnm hQ hM ls hl => ?_
  have hM0 : M = tM G ad g r f h b M0 := hM0
  subst hM0
  have hl : lv_has ls 3 [(0, .ref (ad 0)), (1, .int x), (2, .int o)] := hl
  refine lv_iload_n F.1.1 F.1.2.1 dX7_servoRefusal_0 rfl (lv_at hl 1 rfl) ?_
  refine mc_Sa (As := [_]) F hM (ct_isDrive l ) (va_cwS 1 F.1.2.2.2.2 (lw_S q1780 q1781 q88 q1782) rfl rfl rfl (by decide +kernel) (mRm_ok (by decide) (by decide))) rfl rfl hl.1 rfl (Nat.le_of_ble_eq_true rfl) dX7_servoRefusal_1 ⟨Nat.le_of_ble_eq_true rfl, Nat.le_of_ble_eq_true rfl⟩ (fun H locs hM => ?_)
  refine mr_ifneB F (tgt := 11) dX7_servoRefusal_4 (by decide) (fun c4 => ?_) (fun c4 => ?_)
  · obtain ⟨d, hd4, rfl⟩ := c4
    refine lv_iload_n F.1.1 F.1.2.1 dX7_servoRefusal_11 rfl (lv_at hl 2 rfl) ?_
    refine lv_if_eq (tgt := 36) F.1.1 F.1.2.1 dX7_servoRefusal_12 (by decide) (fun c12 => ?_) (fun c12 => ?_)
    · have hv : kServo r (nI d) o = 0 := by unfold kServo; rw [nD_nI (show d < 2 ^ 31 by omega)]; exact cd2_0 ⟨d, hd4, rfl⟩ (fun q => q.1 c12)
      refine mr_iconst F 0 dX7_servoRefusal_36 (by decide +kernel) ?_
      exact mr_iret F hQ hM ⟨by rw [hv], rfl⟩ (Nat.le_of_ble_eq_true rfl) (Nat.le_of_ble_eq_true rfl) dX7_servoRefusal_37
    · refine lv_aload_n F.1.1 F.1.2.1 dX7_servoRefusal_15 rfl (lv_at hl 0 rfl) ?_
      refine tr_get F hd hM 0 (by decide) q1720 rfl dX7_servoRefusal_16 ?_
      refine mr_bipush F 16 dX7_servoRefusal_19 (by decide +kernel) ?_
      refine lv_iload_n F.1.1 F.1.2.1 dX7_servoRefusal_21 rfl (lv_at hl 1 rfl) ?_
      refine mr_iconst F 3 dX7_servoRefusal_22 (by decide +kernel) ?_
      refine mc_Sa (As := [_, _]) F hM (ct_head l ) (va_cwS 2 F.1.2.2.2.2 (lw_S q1793 q1794 q88 q1795) rfl rfl rfl (by decide +kernel) (mRm_ok (by decide) (by decide))) rfl rfl hl.1 rfl (Nat.le_of_ble_eq_true rfl) dX7_servoRefusal_23 ⟨Nat.le_of_ble_eq_true rfl, Nat.le_of_ble_eq_true rfl⟩ (fun H locs hM => ?_)
      refine mr_iaddN F dX7_servoRefusal_26 ?_
      refine tr_ld1 F hd hM (by omega) rfl dX7_servoRefusal_27 ?_
      refine mr_iconst F 1 dX7_servoRefusal_28 (by decide +kernel) ?_
      refine lv_icmp_ne (tgt := 36) F.1.1 F.1.2.1 dX7_servoRefusal_29 (by decide) (fun c29 => ?_) (fun c29 => ?_)
      · have hv : kServo r (nI d) o = 0 := by unfold kServo; rw [nD_nI (show d < 2 ^ 31 by omega)]; exact cd2_0 ⟨d, hd4, rfl⟩ (fun q => c29 q.2)
        refine mr_iconst F 0 dX7_servoRefusal_36 (by decide +kernel) ?_
        exact mr_iret F hQ hM ⟨by rw [hv], rfl⟩ (Nat.le_of_ble_eq_true rfl) (Nat.le_of_ble_eq_true rfl) dX7_servoRefusal_37
      · have hv : kServo r (nI d) o = 2 := by unfold kServo; rw [nD_nI (show d < 2 ^ 31 by omega)]; exact cd2_2 ⟨d, hd4, rfl⟩ (fun q => q ⟨c12, c29⟩)
        refine mr_iconst F 2 dX7_servoRefusal_32 (by decide +kernel) ?_
        refine lv_goto (tgt := 37) F.1.1 F.1.2.1 dX7_servoRefusal_33 (by decide) ?_
        exact mr_iret F hQ hM ⟨by rw [hv], rfl⟩ (Nat.le_of_ble_eq_true rfl) (Nat.le_of_ble_eq_true rfl) dX7_servoRefusal_37
  · have hv : kServo r x o = 1 := by unfold kServo; exact cd2_1 c4
    refine mr_iconst F 1 dX7_servoRefusal_7 (by decide +kernel) ?_
    refine lv_goto (tgt := 37) F.1.1 F.1.2.1 dX7_servoRefusal_8 (by decide) ?_
    exact mr_iret F hQ hM ⟨by rw [hv], rfl⟩ (Nat.le_of_ble_eq_true rfl) (Nat.le_of_ble_eq_true rfl) dX7_servoRefusal_37
set_option maxHeartbeats 4000000 in
theorem ct_mountRefusal (l : Launch) {G : mG} {ad : Nat → Nat} {g r : Nat → Int32} {f : Nat → UInt32} {h : tH} {b : Nat → Int32} {M0 : mM} {np : Nat} {x z : Int32} (hd : tAd ad) (hnp : r 89 = nI np) (hnp6 : np ≤ 6) : mMet l yX7_mountRefusal (ws_ yX7_mountRefusal cX7_mountRefusal 3 (some .int)) (mRm 3 0 0) [.ref (ad 0), .int x, .int z] G (pPre (tM G ad g r f h b M0)) (pPost (tM G ad g r f h b M0) (some (.int (nI (kMount r x z))))) := by
  refine mMet.of (by decide +kernel) (Nat.le_of_ble_eq_true rfl) fun p e s m args below meth c A Q M hM0 F hnm hQ hM ls hl => ?_
  have hM0 : M = tM G ad g r f h b M0 := hM0
  subst hM0
  have hl : lv_has ls 3 [(0, .ref (ad 0)), (1, .int x), (2, .int z)] := hl
  refine lv_iload_n F.1.1 F.1.2.1 dX7_mountRefusal_0 rfl (lv_at hl 1 rfl) ?_
  refine mc_Sa (As := [_]) F hM (ct_isDrive l ) (va_cwS 1 F.1.2.2.2.2 (lw_S q1780 q1781 q88 q1782) rfl rfl rfl (by decide +kernel) (mRm_ok (by decide) (by decide))) rfl rfl hl.1 rfl (Nat.le_of_ble_eq_true rfl) dX7_mountRefusal_1 ⟨Nat.le_of_ble_eq_true rfl, Nat.le_of_ble_eq_true rfl⟩ (fun H locs hM => ?_)
  refine mr_ifeqB F (tgt := 15) dX7_mountRefusal_4 (by decide) (fun c4 => ?_) (fun c4 => ?_)
  · have hv : kMount r x z = 1 := by unfold kMount; exact cd2_1 (fun q => c4 q.1)
    refine mr_iconst F 1 dX7_mountRefusal_15 (by decide +kernel) ?_
    exact mr_iret F hQ hM ⟨by rw [hv], rfl⟩ (Nat.le_of_ble_eq_true rfl) (Nat.le_of_ble_eq_true rfl) dX7_mountRefusal_16
  · refine lv_aload_n F.1.1 F.1.2.1 dX7_mountRefusal_7 rfl (lv_at hl 0 rfl) ?_
    refine lv_iload_n F.1.1 F.1.2.1 dX7_mountRefusal_8 rfl (lv_at hl 2 rfl) ?_
    refine mc_Va (As := [_]) F hM (ct_isPack l hd (by assumption) (by omega)) (cwV 1 F.1.2.2.2.2 (lw_V q1832 q1834 qs40 q88 q1835) rfl rfl rfl (by decide +kernel) (mRm_ok (by decide) (by decide))) (tM_0 hd) rfl rfl rfl rfl hl.1 rfl (Nat.le_of_ble_eq_true rfl) dX7_mountRefusal_9 ⟨Nat.le_of_ble_eq_true rfl, Nat.le_of_ble_eq_true rfl⟩ (fun H locs hM => ?_)
    refine mr_ifneB F (tgt := 17) dX7_mountRefusal_12 (by decide) (fun c12 => ?_) (fun c12 => ?_)
    · obtain ⟨d, hd4, rfl⟩ := c4
      refine lv_aload_n F.1.1 F.1.2.1 dX7_mountRefusal_17 rfl (lv_at hl 0 rfl) ?_
      refine tr_get F hd hM 0 (by decide) q1720 rfl dX7_mountRefusal_18 ?_
      refine mr_bipush F 60 dX7_mountRefusal_21 (by decide +kernel) ?_
      refine lv_iload_n F.1.1 F.1.2.1 dX7_mountRefusal_23 rfl (lv_at hl 1 rfl) ?_
      refine mr_iaddN F dX7_mountRefusal_24 ?_
      refine tr_ld1 F hd hM (by omega) rfl dX7_mountRefusal_25 ?_
      refine lv_iconst (v := -1) F.1.1 F.1.2.1 dX7_mountRefusal_26 (by decide +kernel) ?_
      refine lv_icmp_ne (tgt := 39) F.1.1 F.1.2.1 dX7_mountRefusal_27 (by decide) (fun c27 => ?_) (fun c27 => ?_)
      · have hv : kMount r (nI d) z = 2 := by unfold kMount; rw [hnp, nD_nI (show np < 2 ^ 31 by omega), nD_nI (show d < 2 ^ 31 by omega)]; exact cd2_2 ⟨⟨d, hd4, rfl⟩, c12⟩ (fun q => c27 q.1)
        refine mr_iconst F 2 dX7_mountRefusal_39 (by decide +kernel) ?_
        refine lv_goto (tgt := 44) F.1.1 F.1.2.1 dX7_mountRefusal_40 (by decide) ?_
        exact mr_iret F hQ hM ⟨by rw [hv], rfl⟩ (Nat.le_of_ble_eq_true rfl) (Nat.le_of_ble_eq_true rfl) dX7_mountRefusal_44
      · refine lv_aload_n F.1.1 F.1.2.1 dX7_mountRefusal_30 rfl (lv_at hl 0 rfl) ?_
        refine lv_iload_n F.1.1 F.1.2.1 dX7_mountRefusal_31 rfl (lv_at hl 2 rfl) ?_
        refine mc_Va (As := [_]) F hM (ct_driveWith l hd ) (cwV 1 F.1.2.2.2.2 (lw_V q1836 q1838 qs41 q88 q1839) rfl rfl rfl (by decide +kernel) (mRm_ok (by decide) (by decide))) (tM_0 hd) rfl rfl rfl rfl hl.1 rfl (Nat.le_of_ble_eq_true rfl) dX7_mountRefusal_32 ⟨Nat.le_of_ble_eq_true rfl, Nat.le_of_ble_eq_true rfl⟩ (fun H locs hM => ?_)
        refine lv_iconst (v := -1) F.1.1 F.1.2.1 dX7_mountRefusal_35 (by decide +kernel) ?_
        refine lv_icmp_eq (tgt := 43) F.1.1 F.1.2.1 dX7_mountRefusal_36 (by decide) (fun c36 => ?_) (fun c36 => ?_)
        · have hv : kMount r (nI d) z = 0 := by unfold kMount; rw [hnp, nD_nI (show np < 2 ^ 31 by omega), nD_nI (show d < 2 ^ 31 by omega)]; exact cd2_0 ⟨⟨d, hd4, rfl⟩, c12⟩ ⟨c27, c36⟩
          refine mr_iconst F 0 dX7_mountRefusal_43 (by decide +kernel) ?_
          exact mr_iret F hQ hM ⟨by rw [hv], rfl⟩ (Nat.le_of_ble_eq_true rfl) (Nat.le_of_ble_eq_true rfl) dX7_mountRefusal_44
        · have hv : kMount r (nI d) z = 2 := by unfold kMount; rw [hnp, nD_nI (show np < 2 ^ 31 by omega), nD_nI (show d < 2 ^ 31 by omega)]; exact cd2_2 ⟨⟨d, hd4, rfl⟩, c12⟩ (fun q => c36 q.2)
          refine mr_iconst F 2 dX7_mountRefusal_39 (by decide +kernel) ?_
          refine lv_goto (tgt := 44) F.1.1 F.1.2.1 dX7_mountRefusal_40 (by decide) ?_
          exact mr_iret F hQ hM ⟨by rw [hv], rfl⟩ (Nat.le_of_ble_eq_true rfl) (Nat.le_of_ble_eq_true rfl) dX7_mountRefusal_44
    · have hv : kMount r x z = 1 := by unfold kMount; rw [hnp, nD_nI (show np < 2 ^ 31 by omega)]; exact cd2_1 (fun q => c12 q.2)
      refine mr_iconst F 1 dX7_mountRefusal_15 (by decide +kernel) ?_
      exact mr_iret F hQ hM ⟨by rw [hv], rfl⟩ (Nat.le_of_ble_eq_true rfl) (Nat.le_of_ble_eq_true rfl) dX7_mountRefusal_16
set_option maxHeartbeats 4000000 in
theorem ct_packRefusal (l : Launch) {G : mG} {ad : Nat → Nat} {g r : Nat → Int32} {f : Nat → UInt32} {h : tH} {b : Nat → Int32} {M0 : mM} {x : Int32} (hd : tAd ad) : mMet l yX7_packRefusal (ws_ yX7_packRefusal cX7_packRefusal 2 (some .int)) (mRm 3 0 0) [.ref (ad 0), .int x] G (pPre (tM G ad g r f h b M0)) (pPost (tM G ad g r f h b M0) (some (.int (nI (kPack r x))))) := by
  refine mMet.of (by decide +kernel) (Nat.le_of_ble_eq_true rfl) fun p e s m args below meth c A Q M hM0 F hnm hQ hM ls hl => ?_
  have hM0 : M = tM G ad g r f h b M0 := hM0
  subst hM0
  have hl : lv_has ls 2 [(0, .ref (ad 0)), (1, .int x)] := hl
  refine lv_iload_n F.1.1 F.1.2.1 dX7_packRefusal_0 rfl (lv_at hl 1 rfl) ?_
  refine mc_Sa (As := [_]) F hM (ct_isDrive l ) (va_cwS 1 F.1.2.2.2.2 (lw_S q1780 q1781 q88 q1782) rfl rfl rfl (by decide +kernel) (mRm_ok (by decide) (by decide))) rfl rfl hl.1 rfl (Nat.le_of_ble_eq_true rfl) dX7_packRefusal_1 ⟨Nat.le_of_ble_eq_true rfl, Nat.le_of_ble_eq_true rfl⟩ (fun H locs hM => ?_)
  refine mr_ifneB F (tgt := 11) dX7_packRefusal_4 (by decide) (fun c4 => ?_) (fun c4 => ?_)
  · obtain ⟨d, hd4, rfl⟩ := c4
    refine lv_aload_n F.1.1 F.1.2.1 dX7_packRefusal_11 rfl (lv_at hl 0 rfl) ?_
    refine tr_get F hd hM 0 (by decide) q1720 rfl dX7_packRefusal_12 ?_
    refine mr_bipush F 60 dX7_packRefusal_15 (by decide +kernel) ?_
    refine lv_iload_n F.1.1 F.1.2.1 dX7_packRefusal_17 rfl (lv_at hl 1 rfl) ?_
    refine mr_iaddN F dX7_packRefusal_18 ?_
    refine tr_ld1 F hd hM (by omega) rfl dX7_packRefusal_19 ?_
    refine lv_iconst (v := -1) F.1.1 F.1.2.1 dX7_packRefusal_20 (by decide +kernel) ?_
    refine lv_icmp_ne (tgt := 28) F.1.1 F.1.2.1 dX7_packRefusal_21 (by decide) (fun c21 => ?_) (fun c21 => ?_)
    · have hv : kPack r (nI d) = 0 := by unfold kPack; rw [nD_nI (show d < 2 ^ 31 by omega)]; exact cd2_0 ⟨d, hd4, rfl⟩ c21
      refine mr_iconst F 0 dX7_packRefusal_28 (by decide +kernel) ?_
      exact mr_iret F hQ hM ⟨by rw [hv], rfl⟩ (Nat.le_of_ble_eq_true rfl) (Nat.le_of_ble_eq_true rfl) dX7_packRefusal_29
    · have hv : kPack r (nI d) = 2 := by unfold kPack; rw [nD_nI (show d < 2 ^ 31 by omega)]; exact cd2_2 ⟨d, hd4, rfl⟩ (fun q => q c21)
      refine mr_iconst F 2 dX7_packRefusal_24 (by decide +kernel) ?_
      refine lv_goto (tgt := 29) F.1.1 F.1.2.1 dX7_packRefusal_25 (by decide) ?_
      exact mr_iret F hQ hM ⟨by rw [hv], rfl⟩ (Nat.le_of_ble_eq_true rfl) (Nat.le_of_ble_eq_true rfl) dX7_packRefusal_29
  · have hv : kPack r x = 1 := by unfold kPack; exact cd2_1 c4
    refine mr_iconst F 1 dX7_packRefusal_7 (by decide +kernel) ?_
    refine lv_goto (tgt := 29) F.1.1 F.1.2.1 dX7_packRefusal_8 (by decide) ?_
    exact mr_iret F hQ hM ⟨by rw [hv], rfl⟩ (Nat.le_of_ble_eq_true rfl) (Nat.le_of_ble_eq_true rfl) dX7_packRefusal_29
set_option maxHeartbeats 4000000 in
theorem ct_seekRefusal (l : Launch) {G : mG} {ad : Nat → Nat} {g r : Nat → Int32} {f : Nat → UInt32} {h : tH} {b : Nat → Int32} {M0 : mM} {x z : Int32} (hd : tAd ad) : mMet l yX7_seekRefusal (ws_ yX7_seekRefusal cX7_seekRefusal 3 (some .int)) (mRm 4 0 0) [.ref (ad 0), .int x, .int z] G (pPre (tM G ad g r f h b M0)) (pPost (tM G ad g r f h b M0) (some (.int (nI (kSeek r x z))))) := by
  refine mMet.of (by decide +kernel) (Nat.le_of_ble_eq_true rfl) fun p e s m args below meth c A Q M hM0 F hnm hQ hM ls hl => ?_
  have hM0 : M = tM G ad g r f h b M0 := hM0
  subst hM0
  have hl : lv_has ls 3 [(0, .ref (ad 0)), (1, .int x), (2, .int z)] := hl
  refine lv_iload_n F.1.1 F.1.2.1 dX7_seekRefusal_0 rfl (lv_at hl 1 rfl) ?_
  refine mc_Sa (As := [_]) F hM (ct_isDrive l ) (va_cwS 1 F.1.2.2.2.2 (lw_S q1780 q1781 q88 q1782) rfl rfl rfl (by decide +kernel) (mRm_ok (by decide) (by decide))) rfl rfl hl.1 rfl (Nat.le_of_ble_eq_true rfl) dX7_seekRefusal_1 ⟨Nat.le_of_ble_eq_true rfl, Nat.le_of_ble_eq_true rfl⟩ (fun H locs hM => ?_)
  refine mr_ifeqB F (tgt := 14) dX7_seekRefusal_4 (by decide) (fun c4 => ?_) (fun c4 => ?_)
  · have hv : kSeek r x z = 1 := by unfold kSeek; exact cd2_1 (fun q => c4 q.1)
    refine mr_iconst F 1 dX7_seekRefusal_14 (by decide +kernel) ?_
    refine lv_goto (tgt := 23) F.1.1 F.1.2.1 dX7_seekRefusal_15 (by decide) ?_
    exact mr_iret F hQ hM ⟨by rw [hv], rfl⟩ (Nat.le_of_ble_eq_true rfl) (Nat.le_of_ble_eq_true rfl) dX7_seekRefusal_23
  · refine lv_iload_n F.1.1 F.1.2.1 dX7_seekRefusal_7 rfl (lv_at hl 2 rfl) ?_
    refine mc_Sa (As := [_]) F hM (ct_isCylinder l ) (va_cwS 1 F.1.2.2.2.2 (lw_S q1864 q1865 q88 q1866) rfl rfl rfl (by decide +kernel) (mRm_ok (by decide) (by decide))) rfl rfl hl.1 rfl (Nat.le_of_ble_eq_true rfl) dX7_seekRefusal_8 ⟨Nat.le_of_ble_eq_true rfl, Nat.le_of_ble_eq_true rfl⟩ (fun H locs hM => ?_)
    refine mr_ifneB F (tgt := 18) dX7_seekRefusal_11 (by decide) (fun c11 => ?_) (fun c11 => ?_)
    · have hv : kSeek r x z = kPack r x := by
        unfold kSeek kPack
        by_cases q : r (60 + nD x) = -1
        · rw [cd2_2 ⟨c4, c11⟩ (fun z => z q), cd2_2 c4 (fun z => z q)]
        · rw [cd2_0 ⟨c4, c11⟩ q, cd2_0 c4 q]
      refine lv_aload_n F.1.1 F.1.2.1 dX7_seekRefusal_18 rfl (lv_at hl 0 rfl) ?_
      refine lv_iload_n F.1.1 F.1.2.1 dX7_seekRefusal_19 rfl (lv_at hl 1 rfl) ?_
      refine mc_Va (As := [_]) F hM (ct_packRefusal l hd ) (cwV 1 F.1.2.2.2.2 (lw_V q1848 q1850 qs43 q88 q1851) rfl rfl rfl (by decide +kernel) (mRm_ok (by decide) (by decide))) (tM_0 hd) rfl rfl rfl rfl hl.1 rfl (Nat.le_of_ble_eq_true rfl) dX7_seekRefusal_20 ⟨Nat.le_of_ble_eq_true rfl, Nat.le_of_ble_eq_true rfl⟩ (fun H locs hM => ?_)
      exact mr_iret F hQ hM ⟨by rw [hv], rfl⟩ (Nat.le_of_ble_eq_true rfl) (Nat.le_of_ble_eq_true rfl) dX7_seekRefusal_23
    · have hv : kSeek r x z = 1 := by unfold kSeek; exact cd2_1 (fun q => c11 q.2)
      refine mr_iconst F 1 dX7_seekRefusal_14 (by decide +kernel) ?_
      refine lv_goto (tgt := 23) F.1.1 F.1.2.1 dX7_seekRefusal_15 (by decide) ?_
      exact mr_iret F hQ hM ⟨by rw [hv], rfl⟩ (Nat.le_of_ble_eq_true rfl) (Nat.le_of_ble_eq_true rfl) dX7_seekRefusal_23
set_option maxHeartbeats 4000000 in
theorem ct_readRefusal (l : Launch) {G : mG} {ad : Nat → Nat} {g r : Nat → Int32} {f : Nat → UInt32} {h : tH} {b : Nat → Int32} {M0 : mM} {x z : Int32} (hd : tAd ad) : mMet l yX7_readRefusal (ws_ yX7_readRefusal cX7_readRefusal 3 (some .int)) (mRm 4 0 0) [.ref (ad 0), .int x, .int z] G (pPre (tM G ad g r f h b M0)) (pPost (tM G ad g r f h b M0) (some (.int (nI (kRead r x z))))) := by
  refine mMet.of (by decide +kernel) (Nat.le_of_ble_eq_true rfl) fun p e s m args below meth c A Q M hM0 F hnm hQ hM ls hl => ?_
  have hM0 : M = tM G ad g r f h b M0 := hM0
  subst hM0
  have hl : lv_has ls 3 [(0, .ref (ad 0)), (1, .int x), (2, .int z)] := hl
  refine lv_iload_n F.1.1 F.1.2.1 dX7_readRefusal_0 rfl (lv_at hl 1 rfl) ?_
  refine mc_Sa (As := [_]) F hM (ct_isDrive l ) (va_cwS 1 F.1.2.2.2.2 (lw_S q1780 q1781 q88 q1782) rfl rfl rfl (by decide +kernel) (mRm_ok (by decide) (by decide))) rfl rfl hl.1 rfl (Nat.le_of_ble_eq_true rfl) dX7_readRefusal_1 ⟨Nat.le_of_ble_eq_true rfl, Nat.le_of_ble_eq_true rfl⟩ (fun H locs hM => ?_)
  refine mr_ifeqB F (tgt := 14) dX7_readRefusal_4 (by decide) (fun c4 => ?_) (fun c4 => ?_)
  · have hv : kRead r x z = 1 := by unfold kRead; exact cd2_1 (fun q => c4 q.1)
    refine mr_iconst F 1 dX7_readRefusal_14 (by decide +kernel) ?_
    refine lv_goto (tgt := 23) F.1.1 F.1.2.1 dX7_readRefusal_15 (by decide) ?_
    exact mr_iret F hQ hM ⟨by rw [hv], rfl⟩ (Nat.le_of_ble_eq_true rfl) (Nat.le_of_ble_eq_true rfl) dX7_readRefusal_23
  · refine lv_iload_n F.1.1 F.1.2.1 dX7_readRefusal_7 rfl (lv_at hl 2 rfl) ?_
    refine mc_Sa (As := [_]) F hM (ct_isDataHead l ) (va_cwS 1 F.1.2.2.2.2 (lw_S q1887 q1888 q88 q1889) rfl rfl rfl (by decide +kernel) (mRm_ok (by decide) (by decide))) rfl rfl hl.1 rfl (Nat.le_of_ble_eq_true rfl) dX7_readRefusal_8 ⟨Nat.le_of_ble_eq_true rfl, Nat.le_of_ble_eq_true rfl⟩ (fun H locs hM => ?_)
    refine mr_ifneB F (tgt := 18) dX7_readRefusal_11 (by decide) (fun c11 => ?_) (fun c11 => ?_)
    · have hv : kRead r x z = kPack r x := by
        unfold kRead kPack
        by_cases q : r (60 + nD x) = -1
        · rw [cd2_2 ⟨c4, c11⟩ (fun z => z q), cd2_2 c4 (fun z => z q)]
        · rw [cd2_0 ⟨c4, c11⟩ q, cd2_0 c4 q]
      refine lv_aload_n F.1.1 F.1.2.1 dX7_readRefusal_18 rfl (lv_at hl 0 rfl) ?_
      refine lv_iload_n F.1.1 F.1.2.1 dX7_readRefusal_19 rfl (lv_at hl 1 rfl) ?_
      refine mc_Va (As := [_]) F hM (ct_packRefusal l hd ) (cwV 1 F.1.2.2.2.2 (lw_V q1848 q1850 qs43 q88 q1851) rfl rfl rfl (by decide +kernel) (mRm_ok (by decide) (by decide))) (tM_0 hd) rfl rfl rfl rfl hl.1 rfl (Nat.le_of_ble_eq_true rfl) dX7_readRefusal_20 ⟨Nat.le_of_ble_eq_true rfl, Nat.le_of_ble_eq_true rfl⟩ (fun H locs hM => ?_)
      exact mr_iret F hQ hM ⟨by rw [hv], rfl⟩ (Nat.le_of_ble_eq_true rfl) (Nat.le_of_ble_eq_true rfl) dX7_readRefusal_23
    · have hv : kRead r x z = 1 := by unfold kRead; exact cd2_1 (fun q => c11 q.2)
      refine mr_iconst F 1 dX7_readRefusal_14 (by decide +kernel) ?_
      refine lv_goto (tgt := 23) F.1.1 F.1.2.1 dX7_readRefusal_15 (by decide) ?_
      exact mr_iret F hQ hM ⟨by rw [hv], rfl⟩ (Nat.le_of_ble_eq_true rfl) (Nat.le_of_ble_eq_true rfl) dX7_readRefusal_23
set_option maxHeartbeats 4000000 in
theorem ct_writeRefusal (l : Launch) {G : mG} {ad : Nat → Nat} {g r : Nat → Int32} {f : Nat → UInt32} {h : tH} {b : Nat → Int32} {M0 : mM} {x z u : Int32} (hd : tAd ad) : mMet l yX7_writeRefusal (ws_ yX7_writeRefusal cX7_writeRefusal 4 (some .int)) (mRm 3 0 0) [.ref (ad 0), .int x, .int z, .int u] G (pPre (tM G ad g r f h b M0)) (pPost (tM G ad g r f h b M0) (some (.int (nI (kWrite r x z u))))) := by
  refine mMet.of (by decide +kernel) (Nat.le_of_ble_eq_true rfl) fun p e s m args below meth c A Q M hM0 F hnm hQ hM ls hl => ?_
  have hM0 : M = tM G ad g r f h b M0 := hM0
  subst hM0
  have hl : lv_has ls 4 [(0, .ref (ad 0)), (1, .int x), (2, .int z), (3, .int u)] := hl
  refine lv_iload_n F.1.1 F.1.2.1 dX7_writeRefusal_0 rfl (lv_at hl 1 rfl) ?_
  refine mc_Sa (As := [_]) F hM (ct_isDrive l ) (va_cwS 1 F.1.2.2.2.2 (lw_S q1780 q1781 q88 q1782) rfl rfl rfl (by decide +kernel) (mRm_ok (by decide) (by decide))) rfl rfl hl.1 rfl (Nat.le_of_ble_eq_true rfl) dX7_writeRefusal_1 ⟨Nat.le_of_ble_eq_true rfl, Nat.le_of_ble_eq_true rfl⟩ (fun H locs hM => ?_)
  refine mr_ifeqB F (tgt := 14) dX7_writeRefusal_4 (by decide) (fun c4 => ?_) (fun c4 => ?_)
  · have hv : kWrite r x z u = 1 := by unfold kWrite; exact cd3_1 (fun q => c4 q.1)
    refine mr_iconst F 1 dX7_writeRefusal_14 (by decide +kernel) ?_
    exact mr_iret F hQ hM ⟨by rw [hv], rfl⟩ (Nat.le_of_ble_eq_true rfl) (Nat.le_of_ble_eq_true rfl) dX7_writeRefusal_15
  · refine lv_iload_n F.1.1 F.1.2.1 dX7_writeRefusal_7 rfl (lv_at hl 2 rfl) ?_
    refine mc_Sa (As := [_]) F hM (ct_isDataHead l ) (va_cwS 1 F.1.2.2.2.2 (lw_S q1887 q1888 q88 q1889) rfl rfl rfl (by decide +kernel) (mRm_ok (by decide) (by decide))) rfl rfl hl.1 rfl (Nat.le_of_ble_eq_true rfl) dX7_writeRefusal_8 ⟨Nat.le_of_ble_eq_true rfl, Nat.le_of_ble_eq_true rfl⟩ (fun H locs hM => ?_)
    refine mr_ifneB F (tgt := 16) dX7_writeRefusal_11 (by decide) (fun c11 => ?_) (fun c11 => ?_)
    · refine lv_iload_n F.1.1 F.1.2.1 dX7_writeRefusal_16 rfl (lv_at hl 3 rfl) ?_
      refine mr_iconst F 0 dX7_writeRefusal_17 (by decide +kernel) ?_
      refine mr_sipush F 999 dX7_writeRefusal_18 (by decide +kernel) ?_
      refine mc_Sa (As := [_, _, _]) F hM (ct_in l ) (va_cwS 3 F.1.2.2.2.2 (lw_S q1783 q1784 q88 q1785) rfl rfl rfl (by decide +kernel) (mRm_ok (by decide) (by decide))) rfl rfl hl.1 rfl (Nat.le_of_ble_eq_true rfl) dX7_writeRefusal_21 ⟨Nat.le_of_ble_eq_true rfl, Nat.le_of_ble_eq_true rfl⟩ (fun H locs hM => ?_)
      refine mr_ifneB F (tgt := 31) dX7_writeRefusal_24 (by decide) (fun c24 => ?_) (fun c24 => ?_)
      · obtain ⟨d, hd4, rfl⟩ := c4
        refine lv_aload_n F.1.1 F.1.2.1 dX7_writeRefusal_31 rfl (lv_at hl 0 rfl) ?_
        refine tr_get F hd hM 0 (by decide) q1720 rfl dX7_writeRefusal_32 ?_
        refine mr_bipush F 60 dX7_writeRefusal_35 (by decide +kernel) ?_
        refine lv_iload_n F.1.1 F.1.2.1 dX7_writeRefusal_37 rfl (lv_at hl 1 rfl) ?_
        refine mr_iaddN F dX7_writeRefusal_38 ?_
        refine tr_ld1 F hd hM (by omega) rfl dX7_writeRefusal_39 ?_
        refine lv_iconst (v := -1) F.1.1 F.1.2.1 dX7_writeRefusal_40 (by decide +kernel) ?_
        refine lv_icmp_ne (tgt := 48) F.1.1 F.1.2.1 dX7_writeRefusal_41 (by decide) (fun c41 => ?_) (fun c41 => ?_)
        · have hv : kWrite r (nI d) z u = 0 := by unfold kWrite; rw [nD_nI (show d < 2 ^ 31 by omega)]; exact cd3_0 ⟨⟨d, hd4, rfl⟩, c11⟩ ((inN_iff (show 999 < 2 ^ 31 by decide)).mp c24) c41
          refine mr_iconst F 0 dX7_writeRefusal_48 (by decide +kernel) ?_
          exact mr_iret F hQ hM ⟨by rw [hv], rfl⟩ (Nat.le_of_ble_eq_true rfl) (Nat.le_of_ble_eq_true rfl) dX7_writeRefusal_49
        · have hv : kWrite r (nI d) z u = 3 := by unfold kWrite; rw [nD_nI (show d < 2 ^ 31 by omega)]; exact cd3_3 ⟨⟨d, hd4, rfl⟩, c11⟩ ((inN_iff (show 999 < 2 ^ 31 by decide)).mp c24) (fun q => q c41)
          refine mr_iconst F 3 dX7_writeRefusal_44 (by decide +kernel) ?_
          refine lv_goto (tgt := 49) F.1.1 F.1.2.1 dX7_writeRefusal_45 (by decide) ?_
          exact mr_iret F hQ hM ⟨by rw [hv], rfl⟩ (Nat.le_of_ble_eq_true rfl) (Nat.le_of_ble_eq_true rfl) dX7_writeRefusal_49
      · have hv : kWrite r x z u = 2 := by unfold kWrite; exact cd3_2 ⟨c4, c11⟩ (fun q => c24 ((inN_iff (show 999 < 2 ^ 31 by decide)).mpr q))
        refine mr_iconst F 2 dX7_writeRefusal_27 (by decide +kernel) ?_
        refine lv_goto (tgt := 49) F.1.1 F.1.2.1 dX7_writeRefusal_28 (by decide) ?_
        exact mr_iret F hQ hM ⟨by rw [hv], rfl⟩ (Nat.le_of_ble_eq_true rfl) (Nat.le_of_ble_eq_true rfl) dX7_writeRefusal_49
    · have hv : kWrite r x z u = 1 := by unfold kWrite; exact cd3_1 (fun q => c11 q.2)
      refine mr_iconst F 1 dX7_writeRefusal_14 (by decide +kernel) ?_
      exact mr_iret F hQ hM ⟨by rw [hv], rfl⟩ (Nat.le_of_ble_eq_true rfl) (Nat.le_of_ble_eq_true rfl) dX7_writeRefusal_15
set_option maxHeartbeats 4000000 in
theorem ct_polishRefusal (l : Launch) {G : mG} {ad : Nat → Nat} {g r : Nat → Int32} {f : Nat → UInt32} {h : tH} {b : Nat → Int32} {M0 : mM} {np : Nat} {x : Int32} (hd : tAd ad) (hnp : r 89 = nI np) (hnp6 : np ≤ 6) : mMet l yX7_polishRefusal (ws_ yX7_polishRefusal cX7_polishRefusal 2 (some .int)) (mRm 3 0 0) [.ref (ad 0), .int x] G (pPre (tM G ad g r f h b M0)) (pPost (tM G ad g r f h b M0) (some (.int (nI (kPolish r x))))) := by
  refine mMet.of (by decide +kernel) (Nat.le_of_ble_eq_true rfl) fun p e s m args below meth c A Q M hM0 F hnm hQ hM ls hl => ?_
  have hM0 : M = tM G ad g r f h b M0 := hM0
  subst hM0
  have hl : lv_has ls 2 [(0, .ref (ad 0)), (1, .int x)] := hl
  refine lv_aload_n F.1.1 F.1.2.1 dX7_polishRefusal_0 rfl (lv_at hl 0 rfl) ?_
  refine lv_iload_n F.1.1 F.1.2.1 dX7_polishRefusal_1 rfl (lv_at hl 1 rfl) ?_
  refine mc_Va (As := [_]) F hM (ct_isPack l hd (by assumption) (by omega)) (cwV 1 F.1.2.2.2.2 (lw_V q1832 q1834 qs40 q88 q1835) rfl rfl rfl (by decide +kernel) (mRm_ok (by decide) (by decide))) (tM_0 hd) rfl rfl rfl rfl hl.1 rfl (Nat.le_of_ble_eq_true rfl) dX7_polishRefusal_2 ⟨Nat.le_of_ble_eq_true rfl, Nat.le_of_ble_eq_true rfl⟩ (fun H locs hM => ?_)
  refine mr_ifneB F (tgt := 12) dX7_polishRefusal_5 (by decide) (fun c5 => ?_) (fun c5 => ?_)
  · refine lv_aload_n F.1.1 F.1.2.1 dX7_polishRefusal_12 rfl (lv_at hl 0 rfl) ?_
    refine lv_iload_n F.1.1 F.1.2.1 dX7_polishRefusal_13 rfl (lv_at hl 1 rfl) ?_
    refine mc_Va (As := [_]) F hM (ct_driveWith l hd ) (cwV 1 F.1.2.2.2.2 (lw_V q1836 q1838 qs41 q88 q1839) rfl rfl rfl (by decide +kernel) (mRm_ok (by decide) (by decide))) (tM_0 hd) rfl rfl rfl rfl hl.1 rfl (Nat.le_of_ble_eq_true rfl) dX7_polishRefusal_14 ⟨Nat.le_of_ble_eq_true rfl, Nat.le_of_ble_eq_true rfl⟩ (fun H locs hM => ?_)
    refine lv_iconst (v := -1) F.1.1 F.1.2.1 dX7_polishRefusal_17 (by decide +kernel) ?_
    refine lv_icmp_eq (tgt := 25) F.1.1 F.1.2.1 dX7_polishRefusal_18 (by decide) (fun c18 => ?_) (fun c18 => ?_)
    · have hv : kPolish r x = 0 := by unfold kPolish; rw [hnp, nD_nI (show np < 2 ^ 31 by omega)]; exact cd2_0 c5 c18
      refine mr_iconst F 0 dX7_polishRefusal_25 (by decide +kernel) ?_
      exact mr_iret F hQ hM ⟨by rw [hv], rfl⟩ (Nat.le_of_ble_eq_true rfl) (Nat.le_of_ble_eq_true rfl) dX7_polishRefusal_26
    · have hv : kPolish r x = 2 := by unfold kPolish; rw [hnp, nD_nI (show np < 2 ^ 31 by omega)]; exact cd2_2 c5 c18
      refine mr_iconst F 2 dX7_polishRefusal_21 (by decide +kernel) ?_
      refine lv_goto (tgt := 26) F.1.1 F.1.2.1 dX7_polishRefusal_22 (by decide) ?_
      exact mr_iret F hQ hM ⟨by rw [hv], rfl⟩ (Nat.le_of_ble_eq_true rfl) (Nat.le_of_ble_eq_true rfl) dX7_polishRefusal_26
  · have hv : kPolish r x = 1 := by unfold kPolish; rw [hnp, nD_nI (show np < 2 ^ 31 by omega)]; exact cd2_1 c5
    refine mr_iconst F 1 dX7_polishRefusal_8 (by decide +kernel) ?_
    refine lv_goto (tgt := 26) F.1.1 F.1.2.1 dX7_polishRefusal_9 (by decide) ?_
    exact mr_iret F hQ hM ⟨by rw [hv], rfl⟩ (Nat.le_of_ble_eq_true rfl) (Nat.le_of_ble_eq_true rfl) dX7_polishRefusal_26
