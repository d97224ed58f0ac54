/-! THE REFERENCE: its small methods -/
set_option maxHeartbeats 4000000 in
theorem ct_head (l : Launch) {G : mG} {M0 : mM} {d n : Nat} : mMet l yX7_head (ws_ yX7_head cX7_head 2 (some .int)) (mRm 1 0 0) [.int (nI d), .int (nI n)] G (pPre (M0)) (pPost (M0) (some (.int (nI (4 * d + n))))) := by
  refine mMet.of (by decide +kernel) (Nat.le_of_ble_eq_true rfl) fun p e s m args below meth c A Q M hM0 F hnm hQ hM ls hl => ?_
  have hM0 : M = M0 := hM0
  subst hM0
  have hl : lv_has ls 2 [(0, .int (nI d)), (1, .int (nI n))] := hl
  refine mr_iconst F 4 dX7_head_0 (by decide +kernel) ?_
  refine lv_iload_n F.1.1 F.1.2.1 dX7_head_1 rfl (lv_at hl 0 rfl) ?_
  refine mr_imulN F dX7_head_2 ?_
  refine lv_iload_n F.1.1 F.1.2.1 dX7_head_3 rfl (lv_at hl 1 rfl) ?_
  refine mr_iaddN F dX7_head_4 ?_
  exact mr_iret F hQ hM ⟨rfl, rfl⟩ (Nat.le_of_ble_eq_true rfl) (Nat.le_of_ble_eq_true rfl) dX7_head_5
set_option maxHeartbeats 4000000 in
theorem ct_track (l : Launch) {G : mG} {M0 : mM} {p0 s0 c0 : Nat} : mMet l yX7_track (ws_ yX7_track cX7_track 3 (some .int)) (mRm 1 0 0) [.int (nI p0), .int (nI s0), .int (nI c0)] G (pPre (M0)) (pPost (M0) (some (.int (nI (40 * (3 * p0 + s0) + c0))))) := by
  refine mMet.of (by decide +kernel) (Nat.le_of_ble_eq_true rfl) fun p e s m args below meth c A Q M hM0 F hnm hQ hM ls hl => ?_
  have hM0 : M = M0 := hM0
  subst hM0
  have hl : lv_has ls 3 [(0, .int (nI p0)), (1, .int (nI s0)), (2, .int (nI c0))] := hl
  refine mr_bipush F 40 dX7_track_0 (by decide +kernel) ?_
  refine mr_iconst F 3 dX7_track_2 (by decide +kernel) ?_
  refine lv_iload_n F.1.1 F.1.2.1 dX7_track_3 rfl (lv_at hl 0 rfl) ?_
  refine mr_imulN F dX7_track_4 ?_
  refine lv_iload_n F.1.1 F.1.2.1 dX7_track_5 rfl (lv_at hl 1 rfl) ?_
  refine mr_iaddN F dX7_track_6 ?_
  refine mr_imulN F dX7_track_7 ?_
  refine lv_iload_n F.1.1 F.1.2.1 dX7_track_8 rfl (lv_at hl 2 rfl) ?_
  refine mr_iaddN F dX7_track_9 ?_
  exact mr_iret F hQ hM ⟨rfl, rfl⟩ (Nat.le_of_ble_eq_true rfl) (Nat.le_of_ble_eq_true rfl) dX7_track_10
set_option maxHeartbeats 4000000 in
theorem ct_learnedAt (l : Launch) {G : mG} {ad : Nat → Nat} {g r : Nat → Int32} {f : Nat → UInt32} {h : tH} {b : Nat → Int32} {M0 : mM} {d p0 : Nat} (hd : tAd ad) : mMet l yX7_learnedAt (ws_ yX7_learnedAt cX7_learnedAt 3 (some .int)) (mRm 1 0 0) [.ref (ad 0), .int (nI d), .int (nI p0)] G (pPre (tM G ad g r f h b M0)) (pPost (tM G ad g r f h b M0) (some (.int (nI (64 + 6 * d + p0))))) := by
  refine mMet.of (by decide +kernel) (Nat.le_of_ble_eq_true rfl) fun p e s m args below meth c A Q M hM0 F hnm hQ hM ls hl => ?_
  have hM0 : M = tM G ad g r f h b M0 := hM0
  subst hM0
  have hl : lv_has ls 3 [(0, .ref (ad 0)), (1, .int (nI d)), (2, .int (nI p0))] := hl
  refine mr_bipush F 64 dX7_learnedAt_0 (by decide +kernel) ?_
  refine mr_bipush F 6 dX7_learnedAt_2 (by decide +kernel) ?_
  refine lv_iload_n F.1.1 F.1.2.1 dX7_learnedAt_4 rfl (lv_at hl 1 rfl) ?_
  refine mr_imulN F dX7_learnedAt_5 ?_
  refine mr_iaddN F dX7_learnedAt_6 ?_
  refine lv_iload_n F.1.1 F.1.2.1 dX7_learnedAt_7 rfl (lv_at hl 2 rfl) ?_
  refine mr_iaddN F dX7_learnedAt_8 ?_
  exact mr_iret F hQ hM ⟨rfl, rfl⟩ (Nat.le_of_ble_eq_true rfl) (Nat.le_of_ble_eq_true rfl) dX7_learnedAt_9
set_option maxHeartbeats 4000000 in
theorem ct_in (l : Launch) {G : mG} {M0 : mM} {x lo hi : Int32} : mMet l yX7_in (ws_ yX7_in cX7_in 3 (some .boolean)) (mRm 1 0 0) [.int x, .int lo, .int hi] G (pPre (M0)) (pPost (M0) (some (.int (bI (lo ≤ x ∧ x ≤ hi))))) := by
  refine mMet.of (by decide +kernel) (Nat.le_of_ble_eq_true rfl) fun p e s m args below meth c A Q M hM0 F hnm hQ hM ls hl => ?_
  have hM0 : M = M0 := hM0
  subst hM0
  have hl : lv_has ls 3 [(0, .int x), (1, .int lo), (2, .int hi)] := hl
  refine lv_iload_n F.1.1 F.1.2.1 dX7_in_0 rfl (lv_at hl 0 rfl) ?_
  refine lv_iload_n F.1.1 F.1.2.1 dX7_in_1 rfl (lv_at hl 1 rfl) ?_
  refine lv_icmp_lt (tgt := 14) F.1.1 F.1.2.1 dX7_in_2 (by decide) (fun c2 => ?_) (fun c2 => ?_)
  · have hv : bI (lo ≤ x ∧ x ≤ hi) = nI 0 := bI_f (fun q => absurd q.1 (Int32.not_le.mpr c2))
    refine mr_iconst F 0 dX7_in_14 (by decide +kernel) ?_
    exact mr_zret F hQ (by first | rfl | exact nZ_bI _) hM ⟨by rw [hv], rfl⟩ (Nat.le_of_ble_eq_true rfl) (Nat.le_of_ble_eq_true rfl) dX7_in_15
  · refine lv_iload_n F.1.1 F.1.2.1 dX7_in_5 rfl (lv_at hl 0 rfl) ?_
    refine lv_iload_n F.1.1 F.1.2.1 dX7_in_6 rfl (lv_at hl 2 rfl) ?_
    refine lv_icmp_gt (tgt := 14) F.1.1 F.1.2.1 dX7_in_7 (by decide) (fun c7 => ?_) (fun c7 => ?_)
    · have hv : bI (lo ≤ x ∧ x ≤ hi) = nI 0 := bI_f (fun q => absurd q.2 (Int32.not_le.mpr c7))
      refine mr_iconst F 0 dX7_in_14 (by decide +kernel) ?_
      exact mr_zret F hQ (by first | rfl | exact nZ_bI _) hM ⟨by rw [hv], rfl⟩ (Nat.le_of_ble_eq_true rfl) (Nat.le_of_ble_eq_true rfl) dX7_in_15
    · have hv : bI (lo ≤ x ∧ x ≤ hi) = nI 1 := bI_t ⟨Int32.not_lt.mp c2, Int32.not_lt.mp c7⟩
      refine mr_iconst F 1 dX7_in_10 (by decide +kernel) ?_
      refine lv_goto (tgt := 15) F.1.1 F.1.2.1 dX7_in_11 (by decide) ?_
      exact mr_zret F hQ (by first | rfl | exact nZ_bI _) hM ⟨by rw [hv], rfl⟩ (Nat.le_of_ble_eq_true rfl) (Nat.le_of_ble_eq_true rfl) dX7_in_15
set_option maxHeartbeats 4000000 in
theorem ct_isDrive (l : Launch) {G : mG} {M0 : mM} {x : Int32} : mMet l yX7_isDrive (ws_ yX7_isDrive cX7_isDrive 1 (some .boolean)) (mRm 2 0 0) [.int x] G (pPre (M0)) (pPost (M0) (some (.int (bI (inN x 4))))) := by
  refine mMet.of (by decide +kernel) (Nat.le_of_ble_eq_true rfl) fun p e s m args below meth c A Q M hM0 F hnm hQ hM ls hl => ?_
  have hM0 : M = M0 := hM0
  subst hM0
  have hl : lv_has ls 1 [(0, .int x)] := hl
  refine lv_iload_n F.1.1 F.1.2.1 dX7_isDrive_0 rfl (lv_at hl 0 rfl) ?_
  refine mr_iconst F 0 dX7_isDrive_1 (by decide +kernel) ?_
  refine mr_iconst F 3 dX7_isDrive_2 (by decide +kernel) ?_
  refine mc_Sa (As := [_, _, _]) F hM (ct_in l ) (va_cwS 3 F.1.2.2.2.2 (lw_S q1783 q1784 q88 q1785) rfl rfl rfl (by decide +kernel) (mRm_ok (by decide) (by decide))) rfl rfl hl.1 rfl (Nat.le_of_ble_eq_true rfl) dX7_isDrive_3 ⟨Nat.le_of_ble_eq_true rfl, Nat.le_of_ble_eq_true rfl⟩ (fun H locs hM => ?_)
  exact mr_zret F hQ (by first | rfl | exact nZ_bI _) hM ⟨by rw [bI_iff (inN_iff (show 3 < 2 ^ 31 by decide))], rfl⟩ (Nat.le_of_ble_eq_true rfl) (Nat.le_of_ble_eq_true rfl) dX7_isDrive_6
set_option maxHeartbeats 4000000 in
theorem ct_isHead (l : Launch) {G : mG} {M0 : mM} {x : Int32} : mMet l yX7_isHead (ws_ yX7_isHead cX7_isHead 1 (some .boolean)) (mRm 2 0 0) [.int x] G (pPre (M0)) (pPost (M0) (some (.int (bI (inN x 4))))) := by
  refine mMet.of (by decide +kernel) (Nat.le_of_ble_eq_true rfl) fun p e s m args below meth c A Q M hM0 F hnm hQ hM ls hl => ?_
  have hM0 : M = M0 := hM0
  subst hM0
  have hl : lv_has ls 1 [(0, .int x)] := hl
  refine lv_iload_n F.1.1 F.1.2.1 dX7_isHead_0 rfl (lv_at hl 0 rfl) ?_
  refine mr_iconst F 0 dX7_isHead_1 (by decide +kernel) ?_
  refine mr_iconst F 3 dX7_isHead_2 (by decide +kernel) ?_
  refine mc_Sa (As := [_, _, _]) F hM (ct_in l ) (va_cwS 3 F.1.2.2.2.2 (lw_S q1783 q1784 q88 q1785) rfl rfl rfl (by decide +kernel) (mRm_ok (by decide) (by decide))) rfl rfl hl.1 rfl (Nat.le_of_ble_eq_true rfl) dX7_isHead_3 ⟨Nat.le_of_ble_eq_true rfl, Nat.le_of_ble_eq_true rfl⟩ (fun H locs hM => ?_)
  exact mr_zret F hQ (by first | rfl | exact nZ_bI _) hM ⟨by rw [bI_iff (inN_iff (show 3 < 2 ^ 31 by decide))], rfl⟩ (Nat.le_of_ble_eq_true rfl) (Nat.le_of_ble_eq_true rfl) dX7_isHead_6
set_option maxHeartbeats 4000000 in
theorem ct_isDataHead (l : Launch) {G : mG} {M0 : mM} {x : Int32} : mMet l yX7_isDataHead (ws_ yX7_isDataHead cX7_isDataHead 1 (some .boolean)) (mRm 2 0 0) [.int x] G (pPre (M0)) (pPost (M0) (some (.int (bI (inN x 3))))) := by
  refine mMet.of (by decide +kernel) (Nat.le_of_ble_eq_true rfl) fun p e s m args below meth c A Q M hM0 F hnm hQ hM ls hl => ?_
  have hM0 : M = M0 := hM0
  subst hM0
  have hl : lv_has ls 1 [(0, .int x)] := hl
  refine lv_iload_n F.1.1 F.1.2.1 dX7_isDataHead_0 rfl (lv_at hl 0 rfl) ?_
  refine mr_iconst F 0 dX7_isDataHead_1 (by decide +kernel) ?_
  refine mr_iconst F 2 dX7_isDataHead_2 (by decide +kernel) ?_
  refine mc_Sa (As := [_, _, _]) F hM (ct_in l ) (va_cwS 3 F.1.2.2.2.2 (lw_S q1783 q1784 q88 q1785) rfl rfl rfl (by decide +kernel) (mRm_ok (by decide) (by decide))) rfl rfl hl.1 rfl (Nat.le_of_ble_eq_true rfl) dX7_isDataHead_3 ⟨Nat.le_of_ble_eq_true rfl, Nat.le_of_ble_eq_true rfl⟩ (fun H locs hM => ?_)
  exact mr_zret F hQ (by first | rfl | exact nZ_bI _) hM ⟨by rw [bI_iff (inN_iff (show 2 < 2 ^ 31 by decide))], rfl⟩ (Nat.le_of_ble_eq_true rfl) (Nat.le_of_ble_eq_true rfl) dX7_isDataHead_6
set_option maxHeartbeats 4000000 in
theorem ct_isCylinder (l : Launch) {G : mG} {M0 : mM} {x : Int32} : mMet l yX7_isCylinder (ws_ yX7_isCylinder cX7_isCylinder 1 (some .boolean)) (mRm 2 0 0) [.int x] G (pPre (M0)) (pPost (M0) (some (.int (bI (inN x 40))))) := by
  refine mMet.of (by decide +kernel) (Nat.le_of_ble_eq_true rfl) fun p e s m args below meth c A Q M hM0 F hnm hQ hM ls hl => ?_
  have hM0 : M = M0 := hM0
  subst hM0
  have hl : lv_has ls 1 [(0, .int x)] := hl
  refine lv_iload_n F.1.1 F.1.2.1 dX7_isCylinder_0 rfl (lv_at hl 0 rfl) ?_
  refine mr_iconst F 0 dX7_isCylinder_1 (by decide +kernel) ?_
  refine mr_bipush F 39 dX7_isCylinder_2 (by decide +kernel) ?_
  refine mc_Sa (As := [_, _, _]) F hM (ct_in l ) (va_cwS 3 F.1.2.2.2.2 (lw_S q1783 q1784 q88 q1785) rfl rfl rfl (by decide +kernel) (mRm_ok (by decide) (by decide))) rfl rfl hl.1 rfl (Nat.le_of_ble_eq_true rfl) dX7_isCylinder_4 ⟨Nat.le_of_ble_eq_true rfl, Nat.le_of_ble_eq_true rfl⟩ (fun H locs hM => ?_)
  exact mr_zret F hQ (by first | rfl | exact nZ_bI _) hM ⟨by rw [bI_iff (inN_iff (show 39 < 2 ^ 31 by decide))], rfl⟩ (Nat.le_of_ble_eq_true rfl) (Nat.le_of_ble_eq_true rfl) dX7_isCylinder_7
set_option maxHeartbeats 4000000 in
theorem ct_isPack (l : Launch) {G : mG} {ad : Nat → Nat} {g r : Nat → Int32} {f : Nat → UInt32} {h : tH} {b : Nat → Int32} {M0 : mM} {np : Nat} {x : Int32} (hd : tAd ad) (hnp : r 89 = nI np) (hnp6 : np ≤ 6) : mMet l yX7_isPack (ws_ yX7_isPack cX7_isPack 2 (some .boolean)) (mRm 2 0 0) [.ref (ad 0), .int x] G (pPre (tM G ad g r f h b M0)) (pPost (tM G ad g r f h b M0) (some (.int (bI (inN x np))))) := by
  refine mMet.of (by decide +kernel) (Nat.le_of_ble_eq_true rfl) fun p e s m args below meth c A Q M hM0 F hnm hQ hM ls hl => ?_
  have hM0 : M = tM G ad g r f h b M0 := hM0
  subst hM0
  have hl : lv_has ls 2 [(0, .ref (ad 0)), (1, .int x)] := hl
  refine lv_iload_n F.1.1 F.1.2.1 dX7_isPack_0 rfl (lv_at hl 1 rfl) ?_
  refine mr_iconst F 0 dX7_isPack_1 (by decide +kernel) ?_
  refine lv_aload_n F.1.1 F.1.2.1 dX7_isPack_2 rfl (lv_at hl 0 rfl) ?_
  refine tr_get F hd hM 0 (by decide) q1720 rfl dX7_isPack_3 ?_
  refine mr_bipush F 89 dX7_isPack_6 (by decide +kernel) ?_
  refine tr_ld1 F hd hM (by omega) hnp dX7_isPack_8 ?_
  refine mr_iconst F 1 dX7_isPack_9 (by decide +kernel) ?_
  refine lv_isub F.1.1 F.1.2.1 dX7_isPack_10 ?_
  refine mc_Sa (As := [_, _, _]) F hM (ct_in l ) (va_cwS 3 F.1.2.2.2.2 (lw_S q1783 q1784 q88 q1785) rfl rfl rfl (by decide +kernel) (mRm_ok (by decide) (by decide))) rfl rfl hl.1 rfl (Nat.le_of_ble_eq_true rfl) dX7_isPack_11 ⟨Nat.le_of_ble_eq_true rfl, Nat.le_of_ble_eq_true rfl⟩ (fun H locs hM => ?_)
  exact mr_zret F hQ (by first | rfl | exact nZ_bI _) hM ⟨by rw [bI_iff (inN_iff0 (show np < 2 ^ 31 by omega))], rfl⟩ (Nat.le_of_ble_eq_true rfl) (Nat.le_of_ble_eq_true rfl) dX7_isPack_14
set_option maxHeartbeats 4000000 in
theorem ct_thrown (l : Launch) {G : mG} {ad : Nat → Nat} {g r : Nat → Int32} {f : Nat → UInt32} {h : tH} {b : Nat → Int32} {M0 : mM}  (hd : tAd ad) : mMet l yX7_thrown (ws_ yX7_thrown cX7_thrown 1 (some .int)) (mRm 1 0 0) [.ref (ad 0)] G (pPre (tM G ad g r f h b M0)) (pPost (tM G ad g r f h b M0) (some (.int (g 10)))) := by
  refine mMet.of (by decide +kernel) (Nat.le_of_ble_eq_true rfl) fun p e s m args below meth c A Q M hM0 F hnm hQ hM ls hl => ?_
  have hM0 : M = tM G ad g r f h b M0 := hM0
  subst hM0
  have hl : lv_has ls 1 [(0, .ref (ad 0))] := hl
  refine lv_aload_n F.1.1 F.1.2.1 dX7_thrown_0 rfl (lv_at hl 0 rfl) ?_
  refine tr_get F hd hM 10 (by decide) q1730 rfl dX7_thrown_1 ?_
  exact mr_iret F hQ hM ⟨rfl, rfl⟩ (Nat.le_of_ble_eq_true rfl) (Nat.le_of_ble_eq_true rfl) dX7_thrown_4
set_option maxHeartbeats 4000000 in
theorem ct_fails (l : Launch) {G : mG} {ad : Nat → Nat} {g r : Nat → Int32} {f : Nat → UInt32} {h : tH} {b : Nat → Int32} {M0 : mM} {x : Int32} (hd : tAd ad) : mMet l yX7_fails (ws_ yX7_fails cX7_fails 2 (some .int)) (mRm 1 0 0) [.ref (ad 0), .int x] G (pPre (tM G ad g r f h b M0)) (pPost (tM G ad (va_up g 10 x) r f h b M0) (some (.int (nI 0)))) := by
  refine mMet.of (by decide +kernel) (Nat.le_of_ble_eq_true rfl) fun p e s m args below meth c A Q M hM0 F hnm hQ hM ls hl => ?_
  have hM0 : M = tM G ad g r f h b M0 := hM0
  subst hM0
  have hl : lv_has ls 2 [(0, .ref (ad 0)), (1, .int x)] := hl
  refine lv_aload_n F.1.1 F.1.2.1 dX7_fails_0 rfl (lv_at hl 0 rfl) ?_
  refine lv_iload_n F.1.1 F.1.2.1 dX7_fails_1 rfl (lv_at hl 1 rfl) ?_
  refine tr_put F hd hM 10 (by decide) q1730 rfl rfl rfl (tw_s10 _ _ _) dX7_fails_2 (fun H locs hM => ?_)
  refine mr_iconst F 0 dX7_fails_5 (by decide +kernel) ?_
  exact mr_iret F hQ hM ⟨rfl, rfl⟩ (Nat.le_of_ble_eq_true rfl) (Nat.le_of_ble_eq_true rfl) dX7_fails_6
set_option maxHeartbeats 4000000 in
theorem ct_failsSo (l : Launch) {G : mG} {ad : Nat → Nat} {g r : Nat → Int32} {f : Nat → UInt32} {h : tH} {b : Nat → Int32} {M0 : mM} {x : Int32} (hd : tAd ad) : mMet l yX7_failsSo (ws_ yX7_failsSo cX7_failsSo 2 (some .boolean)) (mRm 1 0 0) [.ref (ad 0), .int x] G (pPre (tM G ad g r f h b M0)) (pPost (tM G ad (va_up g 10 x) r f h b M0) (some (.int (nI 0)))) := by
  refine mMet.of (by decide +kernel) (Nat.le_of_ble_eq_true rfl) fun p e s m args below meth c A Q M hM0 F hnm hQ hM ls hl => ?_
  have hM0 : M = tM G ad g r f h b M0 := hM0
  subst hM0
  have hl : lv_has ls 2 [(0, .ref (ad 0)), (1, .int x)] := hl
  refine lv_aload_n F.1.1 F.1.2.1 dX7_failsSo_0 rfl (lv_at hl 0 rfl) ?_
  refine lv_iload_n F.1.1 F.1.2.1 dX7_failsSo_1 rfl (lv_at hl 1 rfl) ?_
  refine tr_put F hd hM 10 (by decide) q1730 rfl rfl rfl (tw_s10 _ _ _) dX7_failsSo_2 (fun H locs hM => ?_)
  refine mr_iconst F 0 dX7_failsSo_5 (by decide +kernel) ?_
  exact mr_zret F hQ (by first | rfl | exact nZ_bI _) hM ⟨rfl, rfl⟩ (Nat.le_of_ble_eq_true rfl) (Nat.le_of_ble_eq_true rfl) dX7_failsSo_6
set_option maxHeartbeats 4000000 in
theorem ct_driveWith (l : Launch) {G : mG} {ad : Nat → Nat} {g r : Nat → Int32} {f : Nat → UInt32} {h : tH} {b : Nat → Int32} {M0 : mM} {x : Int32} (hd : tAd ad) : mMet l yX7_driveWith (ws_ yX7_driveWith cX7_driveWith 3 (some .int)) (mRm 1 0 0) [.ref (ad 0), .int x] G (pPre (tM G ad g r f h b M0)) (pPost (tM G ad g r f h b M0) (some (.int (mDw r x)))) := by
  refine mMet.of (by decide +kernel) (Nat.le_of_ble_eq_true rfl) fun p e s m args below meth c A Q M hM0 F hnm hQ hM ls hl => ?_
  have hM0 : M = tM G ad g r f h b M0 := hM0
  subst hM0
  have hl : lv_has ls 3 [(0, .ref (ad 0)), (1, .int x)] := hl
  refine mr_iconst F 0 dX7_driveWith_0 (by decide +kernel) ?_
  refine lv_istore_n (lv' := [(2, _), (0, _), (1, _)]) F.1.1 F.1.2.1 dX7_driveWith_1 rfl hl (by decide) rfl (fun ls hl => ?_)
  have lp : ∀ n k : Nat, k + n = 4 → (∀ j, j < k → r (60 + j) ≠ x) → ∀ (H : Heap) (locs : List Loc), mWd G A s.heap (tM G ad g r f h b M0) H locs → ∀ ls : Array Slot, lv_has ls 3 [(2, .int (nI k)), (0, .ref (ad 0)), (1, .int x)] → W p l e (mRm 1 0 0) s m args below meth c H locs 0 0 Q (F0 m 2 ls []) := by
    intro n
    induction n with
    | zero =>
      intro k hk hj H locs hM ls hl
      refine lv_iload_n F.1.1 F.1.2.1 dX7_driveWith_2 rfl (lv_at hl 0 rfl) ?_
      refine mr_iconst F 4 dX7_driveWith_3 (by decide +kernel) ?_
      refine mr_icmp_geN F (tgt := 28) dX7_driveWith_4 (by decide) (by omega) (by omega) (fun c4 => ?_) (fun c4 => ?_)
      · refine lv_iconst (v := -1) F.1.1 F.1.2.1 dX7_driveWith_28 (by decide +kernel) ?_
        exact mr_iret F hQ hM ⟨by rw [mDw_none (fun j h4 => hj j (by omega))], rfl⟩ (Nat.le_of_ble_eq_true rfl) (Nat.le_of_ble_eq_true rfl) dX7_driveWith_29
      · exact absurd hk (by omega)
    | succ n ih =>
      intro k hk hj H locs hM ls hl
      refine lv_iload_n F.1.1 F.1.2.1 dX7_driveWith_2 rfl (lv_at hl 0 rfl) ?_
      refine mr_iconst F 4 dX7_driveWith_3 (by decide +kernel) ?_
      refine mr_icmp_geN F (tgt := 28) dX7_driveWith_4 (by decide) (by omega) (by omega) (fun c4 => ?_) (fun c4 => ?_)
      · exact absurd hk (by omega)
      · refine lv_aload_n F.1.1 F.1.2.1 dX7_driveWith_7 rfl (lv_at hl 1 rfl) ?_
        refine tr_get F hd hM 0 (by decide) q1720 rfl dX7_driveWith_8 ?_
        refine mr_bipush F 60 dX7_driveWith_11 (by decide +kernel) ?_
        refine lv_iload_n F.1.1 F.1.2.1 dX7_driveWith_13 rfl (lv_at hl 0 rfl) ?_
        refine mr_iaddN F dX7_driveWith_14 ?_
        refine tr_ld1 F hd hM (by omega) rfl dX7_driveWith_15 ?_
        refine lv_iload_n F.1.1 F.1.2.1 dX7_driveWith_16 rfl (lv_at hl 2 rfl) ?_
        refine lv_icmp_ne (tgt := 22) F.1.1 F.1.2.1 dX7_driveWith_17 (by decide) (fun c17 => ?_) (fun c17 => ?_)
        · refine lv_iinc (lv' := [(2, _), (0, _), (1, _)]) F.1.1 F.1.2.1 dX7_driveWith_22 hl (k := 0) rfl (nK_add _ 1) (by decide) rfl (fun ls hl => ?_)
          refine lv_goto (tgt := 2) F.1.1 F.1.2.1 dX7_driveWith_25 (by decide) ?_
          exact ih (k + 1) (by omega) (fun j hj2 => by rcases Nat.lt_or_ge j k with q | q; exact hj j q; rw [show j = k by omega]; exact c17) _ _ hM _ (lv_sub hl [0, 1, 2] rfl)
        · refine lv_iload_n F.1.1 F.1.2.1 dX7_driveWith_20 rfl (lv_at hl 0 rfl) ?_
          exact mr_iret F hQ hM ⟨by rw [mDw_at (k := k) (by omega) hj c17], rfl⟩ (Nat.le_of_ble_eq_true rfl) (Nat.le_of_ble_eq_true rfl) dX7_driveWith_21
  exact lp 4 0 rfl (fun j hj => absurd hj (by omega)) _ _ hM _ hl
set_option maxHeartbeats 4000000 in
theorem ct_tried (l : Launch) {G : mG} {M0 : mM} {k : Nat} : mMet l yX7_tried (ws_ yX7_tried cX7_tried 1 (some .int)) (mRm 1 0 0) [.int (nI k)] G (pPre (M0)) (pPost (M0) (some (.int (mTr k)))) := by
  refine mMet.of (by decide +kernel) (Nat.le_of_ble_eq_true rfl) fun p e s m args below meth c A Q M hM0 F hnm hQ hM ls hl => ?_
  have hM0 : M = M0 := hM0
  subst hM0
  have hl : lv_has ls 1 [(0, .int (nI k))] := hl
  refine lv_iload_n F.1.1 F.1.2.1 dX7_tried_0 rfl (lv_at hl 0 rfl) ?_
  refine mr_iconst F 2 dX7_tried_1 (by decide +kernel) ?_
  refine lv_irem F.1.1 F.1.2.1 dX7_tried_2 (by decide) ?_
  refine mr_iconst F 1 dX7_tried_3 (by decide +kernel) ?_
  refine lv_icmp_ne (tgt := 17) F.1.1 F.1.2.1 dX7_tried_4 (by decide) (fun c4 => ?_) (fun c4 => ?_)
  · have hv : mTr k = -5 * nI k / nI 2 := if_neg c4
    refine lv_bipush (v := -5) F.1.1 F.1.2.1 dX7_tried_17 (by decide +kernel) ?_
    refine lv_iload_n F.1.1 F.1.2.1 dX7_tried_19 rfl (lv_at hl 0 rfl) ?_
    refine lv_imul F.1.1 F.1.2.1 dX7_tried_20 ?_
    refine mr_iconst F 2 dX7_tried_21 (by decide +kernel) ?_
    refine lv_idiv F.1.1 F.1.2.1 dX7_tried_22 (by decide) ?_
    exact mr_iret F hQ hM ⟨by rw [hv], rfl⟩ (Nat.le_of_ble_eq_true rfl) (Nat.le_of_ble_eq_true rfl) dX7_tried_23
  · have hv : mTr k = nI (5 * (k + 1)) / nI 2 := if_pos c4
    refine mr_iconst F 5 dX7_tried_7 (by decide +kernel) ?_
    refine lv_iload_n F.1.1 F.1.2.1 dX7_tried_8 rfl (lv_at hl 0 rfl) ?_
    refine mr_iconst F 1 dX7_tried_9 (by decide +kernel) ?_
    refine mr_iaddN F dX7_tried_10 ?_
    refine mr_imulN F dX7_tried_11 ?_
    refine mr_iconst F 2 dX7_tried_12 (by decide +kernel) ?_
    refine lv_idiv F.1.1 F.1.2.1 dX7_tried_13 (by decide) ?_
    refine lv_goto (tgt := 23) F.1.1 F.1.2.1 dX7_tried_14 (by decide) ?_
    exact mr_iret F hQ hM ⟨by rw [hv], rfl⟩ (Nat.le_of_ble_eq_true rfl) (Nat.le_of_ble_eq_true rfl) dX7_tried_23
set_option maxHeartbeats 4000000 in
theorem ct_place (l : Launch) {G : mG} {ad : Nat → Nat} {g r : Nat → Int32} {f : Nat → UInt32} {h : tH} {b : Nat → Int32} {M0 : mM} {d n p0 c0 : Nat} (hd : tAd ad) (h1 : d < 4) (h2 : n < 4) (h3 : p0 < 6) : mMet l yX7_place (ws_ yX7_place cX7_place 6 (some .int)) (mRm 2 0 0) [.ref (ad 0), .int (nI d), .int (nI n), .int (nI p0), .int (nI c0)] G (pPre (tM G ad g r f h b M0)) (pPost (tM G ad g r f h b M0) (some (.int (mPl r d n p0 c0)))) := by
  refine mMet.of (by decide +kernel) (Nat.le_of_ble_eq_true rfl) fun p e s m args below meth c A Q M hM0 F hnm hQ hM ls hl => ?_
  have hM0 : M = tM G ad g r f h b M0 := hM0
  subst hM0
  have hl : lv_has ls 6 [(0, .ref (ad 0)), (1, .int (nI d)), (2, .int (nI n)), (3, .int (nI p0)), (4, .int (nI c0))] := hl
  refine mr_bipush F 100 dX7_place_0 (by decide +kernel) ?_
  refine lv_iload F.1.1 F.1.2.1 dX7_place_2 (lv_at hl 4 rfl) ?_
  refine mr_imulN F dX7_place_4 ?_
  refine lv_aload_n F.1.1 F.1.2.1 dX7_place_5 rfl (lv_at hl 0 rfl) ?_
  refine tr_get F hd hM 0 (by decide) q1720 rfl dX7_place_6 ?_
  refine mr_iconst F 0 dX7_place_9 (by decide +kernel) ?_
  refine lv_iload_n F.1.1 F.1.2.1 dX7_place_10 rfl (lv_at hl 1 rfl) ?_
  refine lv_iload_n F.1.1 F.1.2.1 dX7_place_11 rfl (lv_at hl 2 rfl) ?_
  refine mc_Sa (As := [_, _]) F hM (ct_head l ) (va_cwS 2 F.1.2.2.2.2 (lw_S q1793 q1794 q88 q1795) rfl rfl rfl (by decide +kernel) (mRm_ok (by decide) (by decide))) rfl rfl hl.1 rfl (Nat.le_of_ble_eq_true rfl) dX7_place_12 ⟨Nat.le_of_ble_eq_true rfl, Nat.le_of_ble_eq_true rfl⟩ (fun H locs hM => ?_)
  refine mr_iaddN F dX7_place_15 ?_
  refine tr_ld1 F hd hM (by omega) rfl dX7_place_16 ?_
  refine lv_iadd F.1.1 F.1.2.1 dX7_place_17 ?_
  refine lv_aload_n F.1.1 F.1.2.1 dX7_place_18 rfl (lv_at hl 0 rfl) ?_
  refine tr_get F hd hM 0 (by decide) q1720 rfl dX7_place_19 ?_
  refine lv_aload_n F.1.1 F.1.2.1 dX7_place_22 rfl (lv_at hl 0 rfl) ?_
  refine lv_iload_n F.1.1 F.1.2.1 dX7_place_23 rfl (lv_at hl 1 rfl) ?_
  refine lv_iload_n F.1.1 F.1.2.1 dX7_place_24 rfl (lv_at hl 3 rfl) ?_
  refine mc_Va (As := [_, _]) F hM (ct_learnedAt l hd ) (cwV 2 F.1.2.2.2.2 (lw_V q1840 q1842 qs42 q88 q1843) rfl rfl rfl (by decide +kernel) (mRm_ok (by decide) (by decide))) (tM_0 hd) rfl rfl rfl rfl hl.1 rfl (Nat.le_of_ble_eq_true rfl) dX7_place_25 ⟨Nat.le_of_ble_eq_true rfl, Nat.le_of_ble_eq_true rfl⟩ (fun H locs hM => ?_)
  refine tr_ld1 F hd hM (by omega) rfl dX7_place_28 ?_
  refine lv_iadd F.1.1 F.1.2.1 dX7_place_29 ?_
  refine lv_istore (lv' := [(5, _), (0, _), (1, _), (2, _), (3, _), (4, _)]) F.1.1 F.1.2.1 dX7_place_30 hl (by decide) rfl (fun ls hl => ?_)
  refine lv_iload F.1.1 F.1.2.1 dX7_place_32 (lv_at hl 0 rfl) ?_
  refine lv_aload_n F.1.1 F.1.2.1 dX7_place_34 rfl (lv_at hl 1 rfl) ?_
  refine tr_get F hd hM 0 (by decide) q1720 rfl dX7_place_35 ?_
  refine mr_bipush F 56 dX7_place_38 (by decide +kernel) ?_
  refine lv_iload_n F.1.1 F.1.2.1 dX7_place_40 rfl (lv_at hl 2 rfl) ?_
  refine mr_iaddN F dX7_place_41 ?_
  refine tr_ld1 F hd hM (by omega) rfl dX7_place_42 ?_
  refine lv_if_ne (tgt := 58) F.1.1 F.1.2.1 dX7_place_43 (by decide) (fun c43 => ?_) (fun c43 => ?_)
  · have hv : mPl r d n p0 c0 = nI (100 * c0) + r (0 + (4 * d + n)) + r (64 + 6 * d + p0) + (r (90 + p0) - r (0 + (4 * d + 3))) := by unfold mPl; rw [if_neg c43]
    refine lv_aload_n F.1.1 F.1.2.1 dX7_place_58 rfl (lv_at hl 1 rfl) ?_
    refine tr_get F hd hM 0 (by decide) q1720 rfl dX7_place_59 ?_
    refine mr_bipush F 90 dX7_place_62 (by decide +kernel) ?_
    refine lv_iload_n F.1.1 F.1.2.1 dX7_place_64 rfl (lv_at hl 4 rfl) ?_
    refine mr_iaddN F dX7_place_65 ?_
    refine tr_ld1 F hd hM (by omega) rfl dX7_place_66 ?_
    refine lv_aload_n F.1.1 F.1.2.1 dX7_place_67 rfl (lv_at hl 1 rfl) ?_
    refine tr_get F hd hM 0 (by decide) q1720 rfl dX7_place_68 ?_
    refine mr_iconst F 0 dX7_place_71 (by decide +kernel) ?_
    refine lv_iload_n F.1.1 F.1.2.1 dX7_place_72 rfl (lv_at hl 2 rfl) ?_
    refine mr_iconst F 3 dX7_place_73 (by decide +kernel) ?_
    refine mc_Sa (As := [_, _]) F hM (ct_head l ) (va_cwS 2 F.1.2.2.2.2 (lw_S q1793 q1794 q88 q1795) rfl rfl rfl (by decide +kernel) (mRm_ok (by decide) (by decide))) rfl rfl hl.1 rfl (Nat.le_of_ble_eq_true rfl) dX7_place_74 ⟨Nat.le_of_ble_eq_true rfl, Nat.le_of_ble_eq_true rfl⟩ (fun H locs hM => ?_)
    refine mr_iaddN F dX7_place_77 ?_
    refine tr_ld1 F hd hM (by omega) rfl dX7_place_78 ?_
    refine lv_isub F.1.1 F.1.2.1 dX7_place_79 ?_
    refine lv_iadd F.1.1 F.1.2.1 dX7_place_80 ?_
    exact mr_iret F hQ hM ⟨by rw [hv], rfl⟩ (Nat.le_of_ble_eq_true rfl) (Nat.le_of_ble_eq_true rfl) dX7_place_81
  · have hv : mPl r d n p0 c0 = nI (100 * c0) + r (0 + (4 * d + n)) + r (64 + 6 * d + p0) + r (48 + d) := by unfold mPl; rw [if_pos c43]
    refine lv_aload_n F.1.1 F.1.2.1 dX7_place_46 rfl (lv_at hl 1 rfl) ?_
    refine tr_get F hd hM 0 (by decide) q1720 rfl dX7_place_47 ?_
    refine mr_bipush F 48 dX7_place_50 (by decide +kernel) ?_
    refine lv_iload_n F.1.1 F.1.2.1 dX7_place_52 rfl (lv_at hl 2 rfl) ?_
    refine mr_iaddN F dX7_place_53 ?_
    refine tr_ld1 F hd hM (by omega) rfl dX7_place_54 ?_
    refine lv_goto (tgt := 80) F.1.1 F.1.2.1 dX7_place_55 (by decide) ?_
    refine lv_iadd F.1.1 F.1.2.1 dX7_place_80 ?_
    exact mr_iret F hQ hM ⟨by rw [hv], rfl⟩ (Nat.le_of_ble_eq_true rfl) (Nat.le_of_ble_eq_true rfl) dX7_place_81
