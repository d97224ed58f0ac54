/-! THE ORDERS CARRIED OUT: the lambdas bodies -/
set_option maxHeartbeats 4000000 in
theorem cs_X10_lambda_mounting_0_ok (l : Launch) {G : mG} {ad : Nat → Nat} {n : Nat} {r : Nat → Int32} {f : Nat → UInt32} {dv : Nat → Int32} {M0 : mM} {d k : Nat} (hd : sAd n ad) (hn : n ≤ 6) (h1 : d < 4) (hk : k < n) (hp : r (60 + d) = -1) (hv : dv k = -1) : mMet l yX10_lambda_mounting_0 (ws_ yX10_lambda_mounting_0 cX10_lambda_mounting_0 3 (some .boolean)) (mRm 10 4 9) [.int (nI d), .int (nI k), .ref (ad 0)] G (pPre (sM G ad n r f dv M0)) (pPost (sM G ad n (va_up r (60 + d) (nI k)) (f) (va_up dv k (nI d)) M0) (some (.int (nI 1)))) := by
  refine mMet.of (by decide +kernel) (Nat.le_of_ble_eq_true rfl) fun p e s m args below meth c A Q M hM0 F hnm hQ hM ls hl => ?_
  have hM0 : M = sM G ad n r f dv M0 := hM0
  subst hM0
  have hl : lv_has ls 3 [(0, .int (nI d)), (1, .int (nI k)), (2, .ref (ad 0))] := hl
  refine lv_aload_n F.1.1 F.1.2.1 dX10_lambda_mounting_0_0 rfl (lv_at hl 2 rfl) ?_
  refine lv_iload_n F.1.1 F.1.2.1 dX10_lambda_mounting_0_1 rfl (lv_at hl 0 rfl) ?_
  refine lv_iload_n F.1.1 F.1.2.1 dX10_lambda_mounting_0_2 rfl (lv_at hl 1 rfl) ?_
  refine mc_Va (As := [_, _]) F hM (cs_X2_mount_ok l hd hn h1 hk hp hv) (cwV 2 F.1.2.2.2.2 (lw_V q801 q802 q803 q71 q804) rfl rfl rfl (by decide +kernel) (mRm_ok (by decide) (by decide))) (sM_0 hd) rfl rfl rfl rfl hl.1 rfl (Nat.le_of_ble_eq_true rfl) dX10_lambda_mounting_0_3 ⟨Nat.le_of_ble_eq_true rfl, Nat.le_of_ble_eq_true rfl⟩ (fun H locs hM => ?_)
  exact mr_zret F hQ (by first | rfl | exact nZ_bI _) hM ⟨rfl, rfl⟩ (Nat.le_of_ble_eq_true rfl) (Nat.le_of_ble_eq_true rfl) dX10_lambda_mounting_0_6
set_option maxHeartbeats 4000000 in
theorem cs_X10_lambda_mounting_0_no (l : Launch) {G : mG} {ad : Nat → Nat} {n : Nat} {r : Nat → Int32} {f : Nat → UInt32} {dv : Nat → Int32} {M0 : mM} {d k : Nat} (hd : sAd n ad) (hn : n ≤ 6) (h1 : d < 4) (hk : k < 100) (hno : ¬ (k < n ∧ r (60 + d) = -1 ∧ dv k = -1)) : mMet l yX10_lambda_mounting_0 (ws_ yX10_lambda_mounting_0 cX10_lambda_mounting_0 3 (some .boolean)) (mRm 10 4 9) [.int (nI d), .int (nI k), .ref (ad 0)] G (pPre (sM G ad n r f dv M0)) (pPost (sM G ad n r f dv M0) (some (.int (nI 0)))) := by
  refine mMet.of (by decide +kernel) (Nat.le_of_ble_eq_true rfl) fun p e s m args below meth c A Q M hM0 F hnm hQ hM ls hl => ?_
  have hM0 : M = sM G ad n r f dv M0 := hM0
  subst hM0
  have hl : lv_has ls 3 [(0, .int (nI d)), (1, .int (nI k)), (2, .ref (ad 0))] := hl
  refine lv_aload_n F.1.1 F.1.2.1 dX10_lambda_mounting_0_0 rfl (lv_at hl 2 rfl) ?_
  refine lv_iload_n F.1.1 F.1.2.1 dX10_lambda_mounting_0_1 rfl (lv_at hl 0 rfl) ?_
  refine lv_iload_n F.1.1 F.1.2.1 dX10_lambda_mounting_0_2 rfl (lv_at hl 1 rfl) ?_
  refine mc_Va (As := [_, _]) F hM (cs_X2_mount_no l hd hn h1 hk hno) (cwV 2 F.1.2.2.2.2 (lw_V q801 q802 q803 q71 q804) rfl rfl rfl (by decide +kernel) (mRm_ok (by decide) (by decide))) (sM_0 hd) rfl rfl rfl rfl hl.1 rfl (Nat.le_of_ble_eq_true rfl) dX10_lambda_mounting_0_3 ⟨Nat.le_of_ble_eq_true rfl, Nat.le_of_ble_eq_true rfl⟩ (fun H locs hM => ?_)
  exact mr_zret F hQ (by first | rfl | exact nZ_bI _) hM ⟨rfl, rfl⟩ (Nat.le_of_ble_eq_true rfl) (Nat.le_of_ble_eq_true rfl) dX10_lambda_mounting_0_6
set_option maxHeartbeats 4000000 in
theorem cs_X10_lambda_unmounting_1_ok (l : Launch) {G : mG} {ad : Nat → Nat} {n : Nat} {r : Nat → Int32} {f : Nat → UInt32} {dv : Nat → Int32} {M0 : mM} {d k : Nat} (hd : sAd n ad) (hn : n ≤ 6) (hp : r (60 + d) = nI k) (h1 : d < 4) (h3 : k < n) : mMet l yX10_lambda_unmounting_1 (ws_ yX10_lambda_unmounting_1 cX10_lambda_unmounting_1 2 (some .boolean)) (mRm 5 0 0) [.int (nI d), .ref (ad 0)] G (pPre (sM G ad n r f dv M0)) (pPost (sM G ad n (nUnm r d) (f) (va_up dv k (-1)) M0) (some (.int (nI 1)))) := by
  refine mMet.of (by decide +kernel) (Nat.le_of_ble_eq_true rfl) fun p e s m args below meth c A Q M hM0 F hnm hQ hM ls hl => ?_
  have hM0 : M = sM G ad n r f dv M0 := hM0
  subst hM0
  have hl : lv_has ls 2 [(0, .int (nI d)), (1, .ref (ad 0))] := hl
  refine lv_aload_n F.1.1 F.1.2.1 dX10_lambda_unmounting_1_0 rfl (lv_at hl 1 rfl) ?_
  refine lv_iload_n F.1.1 F.1.2.1 dX10_lambda_unmounting_1_1 rfl (lv_at hl 0 rfl) ?_
  refine mc_Va (As := [_]) F hM (cs_X2_unmount_ok l hd hn hp h1 h3) (cwV 1 F.1.2.2.2.2 (lw_V q857 q858 q859 q71 q860) rfl rfl rfl (by decide +kernel) (mRm_ok (by decide) (by decide))) (sM_0 hd) rfl rfl rfl rfl hl.1 rfl (Nat.le_of_ble_eq_true rfl) dX10_lambda_unmounting_1_2 ⟨Nat.le_of_ble_eq_true rfl, Nat.le_of_ble_eq_true rfl⟩ (fun H locs hM => ?_)
  exact mr_zret F hQ (by first | rfl | exact nZ_bI _) hM ⟨rfl, rfl⟩ (Nat.le_of_ble_eq_true rfl) (Nat.le_of_ble_eq_true rfl) dX10_lambda_unmounting_1_5
set_option maxHeartbeats 4000000 in
theorem cs_X10_lambda_unmounting_1_no (l : Launch) {G : mG} {ad : Nat → Nat} {n : Nat} {r : Nat → Int32} {f : Nat → UInt32} {dv : Nat → Int32} {M0 : mM} {d : Nat} (hd : sAd n ad) (hn : n ≤ 6) (hp : r (60 + d) = -1) (h1 : d < 4) : mMet l yX10_lambda_unmounting_1 (ws_ yX10_lambda_unmounting_1 cX10_lambda_unmounting_1 2 (some .boolean)) (mRm 5 0 0) [.int (nI d), .ref (ad 0)] G (pPre (sM G ad n r f dv M0)) (pPost (sM G ad n r f dv M0) (some (.int (nI 0)))) := by
  refine mMet.of (by decide +kernel) (Nat.le_of_ble_eq_true rfl) fun p e s m args below meth c A Q M hM0 F hnm hQ hM ls hl => ?_
  have hM0 : M = sM G ad n r f dv M0 := hM0
  subst hM0
  have hl : lv_has ls 2 [(0, .int (nI d)), (1, .ref (ad 0))] := hl
  refine lv_aload_n F.1.1 F.1.2.1 dX10_lambda_unmounting_1_0 rfl (lv_at hl 1 rfl) ?_
  refine lv_iload_n F.1.1 F.1.2.1 dX10_lambda_unmounting_1_1 rfl (lv_at hl 0 rfl) ?_
  refine mc_Va (As := [_]) F hM (cs_X2_unmount_no l hd hn hp h1) (cwV 1 F.1.2.2.2.2 (lw_V q857 q858 q859 q71 q860) rfl rfl rfl (by decide +kernel) (mRm_ok (by decide) (by decide))) (sM_0 hd) rfl rfl rfl rfl hl.1 rfl (Nat.le_of_ble_eq_true rfl) dX10_lambda_unmounting_1_2 ⟨Nat.le_of_ble_eq_true rfl, Nat.le_of_ble_eq_true rfl⟩ (fun H locs hM => ?_)
  exact mr_zret F hQ (by first | rfl | exact nZ_bI _) hM ⟨rfl, rfl⟩ (Nat.le_of_ble_eq_true rfl) (Nat.le_of_ble_eq_true rfl) dX10_lambda_unmounting_1_5
set_option maxHeartbeats 4000000 in
theorem cs_X10_lambda_seeking_2_ok (l : Launch) {G : mG} {ad : Nat → Nat} {n : Nat} {r : Nat → Int32} {f : Nat → UInt32} {dv : Nat → Int32} {M0 : mM} {d : Nat} {x : Int32} (hd : sAd n ad) (hn : n ≤ 6) (hpn : ¬ r (60 + d) = -1) (h1 : d < 4) : mMet l yX10_lambda_seeking_2 (ws_ yX10_lambda_seeking_2 cX10_lambda_seeking_2 3 (some .boolean)) (mRm 3 0 0) [.int (nI d), .int x, .ref (ad 0)] G (pPre (sM G ad n r f dv M0)) (pPost (sM G ad n (va_up r (52 + d) x) (f) (dv) M0) (some (.int (nI 1)))) := by
  refine mMet.of (by decide +kernel) (Nat.le_of_ble_eq_true rfl) fun p e s m args below meth c A Q M hM0 F hnm hQ hM ls hl => ?_
  have hM0 : M = sM G ad n r f dv M0 := hM0
  subst hM0
  have hl : lv_has ls 3 [(0, .int (nI d)), (1, .int x), (2, .ref (ad 0))] := hl
  refine lv_aload_n F.1.1 F.1.2.1 dX10_lambda_seeking_2_0 rfl (lv_at hl 2 rfl) ?_
  refine lv_iload_n F.1.1 F.1.2.1 dX10_lambda_seeking_2_1 rfl (lv_at hl 0 rfl) ?_
  refine lv_iload_n F.1.1 F.1.2.1 dX10_lambda_seeking_2_2 rfl (lv_at hl 1 rfl) ?_
  refine mc_Va (As := [_, _]) F hM (cs_X2_seek_ok l hd hn hpn h1) (cwV 2 F.1.2.2.2.2 (lw_V q867 q868 q869 q71 q870) rfl rfl rfl (by decide +kernel) (mRm_ok (by decide) (by decide))) (sM_0 hd) rfl rfl rfl rfl hl.1 rfl (Nat.le_of_ble_eq_true rfl) dX10_lambda_seeking_2_3 ⟨Nat.le_of_ble_eq_true rfl, Nat.le_of_ble_eq_true rfl⟩ (fun H locs hM => ?_)
  exact mr_zret F hQ (by first | rfl | exact nZ_bI _) hM ⟨rfl, rfl⟩ (Nat.le_of_ble_eq_true rfl) (Nat.le_of_ble_eq_true rfl) dX10_lambda_seeking_2_6
set_option maxHeartbeats 4000000 in
theorem cs_X10_lambda_seeking_2_no (l : Launch) {G : mG} {ad : Nat → Nat} {n : Nat} {r : Nat → Int32} {f : Nat → UInt32} {dv : Nat → Int32} {M0 : mM} {d : Nat} {x : Int32} (hd : sAd n ad) (hn : n ≤ 6) (hp : r (60 + d) = -1) (h1 : d < 4) : mMet l yX10_lambda_seeking_2 (ws_ yX10_lambda_seeking_2 cX10_lambda_seeking_2 3 (some .boolean)) (mRm 3 0 0) [.int (nI d), .int x, .ref (ad 0)] G (pPre (sM G ad n r f dv M0)) (pPost (sM G ad n r f dv M0) (some (.int (nI 0)))) := by
  refine mMet.of (by decide +kernel) (Nat.le_of_ble_eq_true rfl) fun p e s m args below meth c A Q M hM0 F hnm hQ hM ls hl => ?_
  have hM0 : M = sM G ad n r f dv M0 := hM0
  subst hM0
  have hl : lv_has ls 3 [(0, .int (nI d)), (1, .int x), (2, .ref (ad 0))] := hl
  refine lv_aload_n F.1.1 F.1.2.1 dX10_lambda_seeking_2_0 rfl (lv_at hl 2 rfl) ?_
  refine lv_iload_n F.1.1 F.1.2.1 dX10_lambda_seeking_2_1 rfl (lv_at hl 0 rfl) ?_
  refine lv_iload_n F.1.1 F.1.2.1 dX10_lambda_seeking_2_2 rfl (lv_at hl 1 rfl) ?_
  refine mc_Va (As := [_, _]) F hM (cs_X2_seek_no l hd hn hp h1) (cwV 2 F.1.2.2.2.2 (lw_V q867 q868 q869 q71 q870) rfl rfl rfl (by decide +kernel) (mRm_ok (by decide) (by decide))) (sM_0 hd) rfl rfl rfl rfl hl.1 rfl (Nat.le_of_ble_eq_true rfl) dX10_lambda_seeking_2_3 ⟨Nat.le_of_ble_eq_true rfl, Nat.le_of_ble_eq_true rfl⟩ (fun H locs hM => ?_)
  exact mr_zret F hQ (by first | rfl | exact nZ_bI _) hM ⟨rfl, rfl⟩ (Nat.le_of_ble_eq_true rfl) (Nat.le_of_ble_eq_true rfl) dX10_lambda_seeking_2_6
set_option maxHeartbeats 4000000 in
theorem cs_X10_lambda_writing_3_ok (l : Launch) {G : mG} {ad : Nat → Nat} {n : Nat} {r : Nat → Int32} {f : Nat → UInt32} {dv : Nat → Int32} {M0 : mM} {d h k q0 : Nat} {x : Int32} (hd : sAd n ad) (hn : n ≤ 6) (hI : mInv r f) (h89 : r 89 = nI n) (hp : r (60 + d) = nI k) (hc : r (52 + d) = nI q0) (h1 : d < 4) (h2 : h < 3) (h3 : k < n) (h4 : q0 < 40) : mMet l yX10_lambda_writing_3 (ws_ yX10_lambda_writing_3 cX10_lambda_writing_3 4 (some .boolean)) (mRm 7 0 0) [.int (nI d), .int (nI h), .int x, .ref (ad 0)] G (pPre (sM G ad n r f dv M0)) (pPost (sM G ad n (nRubR (nWrR r d h k q0 x) d h k) (nRubF (nWrR r d h k q0 x) (nWrF r f d h k q0) d h k q0) (dv) M0) (some (.int (nI 1)))) := by
  refine mMet.of (by decide +kernel) (Nat.le_of_ble_eq_true rfl) fun p e s m args below meth c A Q M hM0 F hnm hQ hM ls hl => ?_
  have hM0 : M = sM G ad n r f dv M0 := hM0
  subst hM0
  have hl : lv_has ls 4 [(0, .int (nI d)), (1, .int (nI h)), (2, .int x), (3, .ref (ad 0))] := hl
  refine lv_aload_n F.1.1 F.1.2.1 dX10_lambda_writing_3_0 rfl (lv_at hl 3 rfl) ?_
  refine lv_iload_n F.1.1 F.1.2.1 dX10_lambda_writing_3_1 rfl (lv_at hl 0 rfl) ?_
  refine lv_iload_n F.1.1 F.1.2.1 dX10_lambda_writing_3_2 rfl (lv_at hl 1 rfl) ?_
  refine lv_iload_n F.1.1 F.1.2.1 dX10_lambda_writing_3_3 rfl (lv_at hl 2 rfl) ?_
  refine mc_Va (As := [_, _, _]) F hM (cs_X2_write_ok l hd hn hI h89 hp hc h1 h2 h3 h4) (cwV 3 F.1.2.2.2.2 (lw_V q877 q878 q879 q71 q880) rfl rfl rfl (by decide +kernel) (mRm_ok (by decide) (by decide))) (sM_0 hd) rfl rfl rfl rfl hl.1 rfl (Nat.le_of_ble_eq_true rfl) dX10_lambda_writing_3_4 ⟨Nat.le_of_ble_eq_true rfl, Nat.le_of_ble_eq_true rfl⟩ (fun H locs hM => ?_)
  exact mr_zret F hQ (by first | rfl | exact nZ_bI _) hM ⟨rfl, rfl⟩ (Nat.le_of_ble_eq_true rfl) (Nat.le_of_ble_eq_true rfl) dX10_lambda_writing_3_7
set_option maxHeartbeats 4000000 in
theorem cs_X10_lambda_writing_3_no (l : Launch) {G : mG} {ad : Nat → Nat} {n : Nat} {r : Nat → Int32} {f : Nat → UInt32} {dv : Nat → Int32} {M0 : mM} {d : Nat} {x z : Int32} (hd : sAd n ad) (hn : n ≤ 6) (hp : r (60 + d) = -1) (h1 : d < 4) : mMet l yX10_lambda_writing_3 (ws_ yX10_lambda_writing_3 cX10_lambda_writing_3 4 (some .boolean)) (mRm 7 0 0) [.int (nI d), .int x, .int z, .ref (ad 0)] G (pPre (sM G ad n r f dv M0)) (pPost (sM G ad n r f dv M0) (some (.int (nI 0)))) := by
  refine mMet.of (by decide +kernel) (Nat.le_of_ble_eq_true rfl) fun p e s m args below meth c A Q M hM0 F hnm hQ hM ls hl => ?_
  have hM0 : M = sM G ad n r f dv M0 := hM0
  subst hM0
  have hl : lv_has ls 4 [(0, .int (nI d)), (1, .int x), (2, .int z), (3, .ref (ad 0))] := hl
  refine lv_aload_n F.1.1 F.1.2.1 dX10_lambda_writing_3_0 rfl (lv_at hl 3 rfl) ?_
  refine lv_iload_n F.1.1 F.1.2.1 dX10_lambda_writing_3_1 rfl (lv_at hl 0 rfl) ?_
  refine lv_iload_n F.1.1 F.1.2.1 dX10_lambda_writing_3_2 rfl (lv_at hl 1 rfl) ?_
  refine lv_iload_n F.1.1 F.1.2.1 dX10_lambda_writing_3_3 rfl (lv_at hl 2 rfl) ?_
  refine mc_Va (As := [_, _, _]) F hM (cs_X2_write_no l hd hn hp h1) (cwV 3 F.1.2.2.2.2 (lw_V q877 q878 q879 q71 q880) rfl rfl rfl (by decide +kernel) (mRm_ok (by decide) (by decide))) (sM_0 hd) rfl rfl rfl rfl hl.1 rfl (Nat.le_of_ble_eq_true rfl) dX10_lambda_writing_3_4 ⟨Nat.le_of_ble_eq_true rfl, Nat.le_of_ble_eq_true rfl⟩ (fun H locs hM => ?_)
  exact mr_zret F hQ (by first | rfl | exact nZ_bI _) hM ⟨rfl, rfl⟩ (Nat.le_of_ble_eq_true rfl) (Nat.le_of_ble_eq_true rfl) dX10_lambda_writing_3_7
set_option maxHeartbeats 4000000 in
theorem cs_X10_lambda_reading_4_ok (l : Launch) {G : mG} {ad : Nat → Nat} {n : Nat} {r : Nat → Int32} {f : Nat → UInt32} {dv : Nat → Int32} {M0 : mM} {d h k q0 t : Nat} (hd : sAd n ad) (hn : n ≤ 6) (hI : mInv r f) (h89 : r 89 = nI n) (hp : r (60 + d) = nI k) (hc : r (52 + d) = nI q0) (ht : r 88 = nI t) (ht8 : t ≤ 8) (h1 : d < 4) (h2 : h < 3) (h3 : k < n) (h4 : q0 < 40) : mMet l yX10_lambda_reading_4 (ws_ yX10_lambda_reading_4 cX10_lambda_reading_4 4 (some .boolean)) (mRm 9 0 0) [.int (nI d), .int (nI h), .ref (ad 0)] G (pPre (sM G ad n r f dv M0)) (pPost (sM G ad n (nRubR (nRdR r d k t (mRt r f d h k q0 t)) d h k) (nRubF (nRdR r d k t (mRt r f d h k q0 t)) f d h k q0) (dv) M0) (some (.int (nI 1)))) := by
  refine mMet.of (by decide +kernel) (Nat.le_of_ble_eq_true rfl) fun p e s m args below meth c A Q M hM0 F hnm hQ hM ls hl => ?_
  have hM0 : M = sM G ad n r f dv M0 := hM0
  subst hM0
  have hl : lv_has ls 4 [(0, .int (nI d)), (1, .int (nI h)), (2, .ref (ad 0))] := hl
  refine lv_aload_n F.1.1 F.1.2.1 dX10_lambda_reading_4_0 rfl (lv_at hl 2 rfl) ?_
  refine lv_iload_n F.1.1 F.1.2.1 dX10_lambda_reading_4_1 rfl (lv_at hl 0 rfl) ?_
  refine mc_Va (As := [_]) F hM (cs_X2_hasPack l hd hn (by omega)) (cwV 1 F.1.2.2.2.2 (lw_V q941 q820 q821 q71 q822) rfl rfl rfl (by decide +kernel) (mRm_ok (by decide) (by decide))) (sM_0 hd) rfl rfl rfl rfl hl.1 rfl (Nat.le_of_ble_eq_true rfl) dX10_lambda_reading_4_2 ⟨Nat.le_of_ble_eq_true rfl, Nat.le_of_ble_eq_true rfl⟩ (fun H locs hM => ?_)
  rw [bI_t (show ¬ r (60 + d) = -1 by rw [hp]; exact m1_ne_nI (by omega))]
  refine lv_istore_n (lv' := [(3, _), (0, _), (1, _), (2, _)]) F.1.1 F.1.2.1 dX10_lambda_reading_4_5 rfl hl (by decide) rfl (fun ls hl => ?_)
  refine lv_aload_n F.1.1 F.1.2.1 dX10_lambda_reading_4_6 rfl (lv_at hl 3 rfl) ?_
  refine lv_iload_n F.1.1 F.1.2.1 dX10_lambda_reading_4_7 rfl (lv_at hl 1 rfl) ?_
  refine lv_iload_n F.1.1 F.1.2.1 dX10_lambda_reading_4_8 rfl (lv_at hl 2 rfl) ?_
  refine mc_Va (As := [_, _]) F hM (cs_X2_read_ok l hd hn hI h89 hp hc ht ht8 h1 h2 h3 h4) (cwV 2 F.1.2.2.2.2 (lw_V q942 q943 q944 q71 q945) rfl rfl rfl (by decide +kernel) (mRm_ok (by decide) (by decide))) (sM_0 hd) rfl rfl rfl rfl hl.1 rfl (Nat.le_of_ble_eq_true rfl) dX10_lambda_reading_4_9 ⟨Nat.le_of_ble_eq_true rfl, Nat.le_of_ble_eq_true rfl⟩ (fun H locs hM => ?_)
  refine lv_pop F.1.1 F.1.2.1 dX10_lambda_reading_4_12 rfl ?_
  refine lv_iload_n F.1.1 F.1.2.1 dX10_lambda_reading_4_13 rfl (lv_at hl 0 rfl) ?_
  exact mr_zret F hQ (by first | rfl | exact nZ_bI _) hM ⟨rfl, rfl⟩ (Nat.le_of_ble_eq_true rfl) (Nat.le_of_ble_eq_true rfl) dX10_lambda_reading_4_14
set_option maxHeartbeats 4000000 in
theorem cs_X10_lambda_reading_4_no (l : Launch) {G : mG} {ad : Nat → Nat} {n : Nat} {r : Nat → Int32} {f : Nat → UInt32} {dv : Nat → Int32} {M0 : mM} {d : Nat} {x : Int32} (hd : sAd n ad) (hn : n ≤ 6) (hp : r (60 + d) = -1) (h1 : d < 4) : mMet l yX10_lambda_reading_4 (ws_ yX10_lambda_reading_4 cX10_lambda_reading_4 4 (some .boolean)) (mRm 9 0 0) [.int (nI d), .int x, .ref (ad 0)] G (pPre (sM G ad n r f dv M0)) (pPost (sM G ad n r f dv M0) (some (.int (nI 0)))) := by
  refine mMet.of (by decide +kernel) (Nat.le_of_ble_eq_true rfl) fun p e s m args below meth c A Q M hM0 F hnm hQ hM ls hl => ?_
  have hM0 : M = sM G ad n r f dv M0 := hM0
  subst hM0
  have hl : lv_has ls 4 [(0, .int (nI d)), (1, .int x), (2, .ref (ad 0))] := hl
  refine lv_aload_n F.1.1 F.1.2.1 dX10_lambda_reading_4_0 rfl (lv_at hl 2 rfl) ?_
  refine lv_iload_n F.1.1 F.1.2.1 dX10_lambda_reading_4_1 rfl (lv_at hl 0 rfl) ?_
  refine mc_Va (As := [_]) F hM (cs_X2_hasPack l hd hn (by omega)) (cwV 1 F.1.2.2.2.2 (lw_V q941 q820 q821 q71 q822) rfl rfl rfl (by decide +kernel) (mRm_ok (by decide) (by decide))) (sM_0 hd) rfl rfl rfl rfl hl.1 rfl (Nat.le_of_ble_eq_true rfl) dX10_lambda_reading_4_2 ⟨Nat.le_of_ble_eq_true rfl, Nat.le_of_ble_eq_true rfl⟩ (fun H locs hM => ?_)
  rw [bI_f (fun q : ¬ r (60 + d) = -1 => q hp)]
  refine lv_istore_n (lv' := [(3, _), (0, _), (1, _), (2, _)]) F.1.1 F.1.2.1 dX10_lambda_reading_4_5 rfl hl (by decide) rfl (fun ls hl => ?_)
  refine lv_aload_n F.1.1 F.1.2.1 dX10_lambda_reading_4_6 rfl (lv_at hl 3 rfl) ?_
  refine lv_iload_n F.1.1 F.1.2.1 dX10_lambda_reading_4_7 rfl (lv_at hl 1 rfl) ?_
  refine lv_iload_n F.1.1 F.1.2.1 dX10_lambda_reading_4_8 rfl (lv_at hl 2 rfl) ?_
  refine mc_Va (As := [_, _]) F hM (cs_X2_read_no l hd hn hp h1) (cwV 2 F.1.2.2.2.2 (lw_V q942 q943 q944 q71 q945) rfl rfl rfl (by decide +kernel) (mRm_ok (by decide) (by decide))) (sM_0 hd) rfl rfl rfl rfl hl.1 rfl (Nat.le_of_ble_eq_true rfl) dX10_lambda_reading_4_9 ⟨Nat.le_of_ble_eq_true rfl, Nat.le_of_ble_eq_true rfl⟩ (fun H locs hM => ?_)
  refine lv_pop F.1.1 F.1.2.1 dX10_lambda_reading_4_12 rfl ?_
  refine lv_iload_n F.1.1 F.1.2.1 dX10_lambda_reading_4_13 rfl (lv_at hl 0 rfl) ?_
  exact mr_zret F hQ (by first | rfl | exact nZ_bI _) hM ⟨rfl, rfl⟩ (Nat.le_of_ble_eq_true rfl) (Nat.le_of_ble_eq_true rfl) dX10_lambda_reading_4_14
set_option maxHeartbeats 4000000 in
theorem cs_X10_lambda_turning_5_ok (l : Launch) {G : mG} {ad : Nat → Nat} {n : Nat} {r : Nat → Int32} {f : Nat → UInt32} {dv : Nat → Int32} {M0 : mM} {d : Nat} {x : Int32} (hd : sAd n ad) (hn : n ≤ 6) (hk : ¬ (¬ x = 0 ∧ r (16 + (4 * d + 3)) = nI 1)) (hs : r (16 + (4 * d + 3)) = nI 0 ∨ r (16 + (4 * d + 3)) = nI 1) (hob : x = nI 0 ∨ x = nI 1) (h1 : d < 4) : mMet l yX10_lambda_turning_5 (ws_ yX10_lambda_turning_5 cX10_lambda_turning_5 3 (some .boolean)) (mRm 2 0 0) [.int (nI d), .int x, .ref (ad 0)] G (pPre (sM G ad n r f dv M0)) (pPost (sM G ad n (va_up r (56 + d) x) (f) (dv) M0) (some (.int (nI 1)))) := by
  refine mMet.of (by decide +kernel) (Nat.le_of_ble_eq_true rfl) fun p e s m args below meth c A Q M hM0 F hnm hQ hM ls hl => ?_
  have hM0 : M = sM G ad n r f dv M0 := hM0
  subst hM0
  have hl : lv_has ls 3 [(0, .int (nI d)), (1, .int x), (2, .ref (ad 0))] := hl
  refine lv_aload_n F.1.1 F.1.2.1 dX10_lambda_turning_5_0 rfl (lv_at hl 2 rfl) ?_
  refine lv_iload_n F.1.1 F.1.2.1 dX10_lambda_turning_5_1 rfl (lv_at hl 0 rfl) ?_
  refine lv_iload_n F.1.1 F.1.2.1 dX10_lambda_turning_5_2 rfl (lv_at hl 1 rfl) ?_
  refine mc_Va (As := [_, _]) F hM (cs_X2_setServo_ok l hd hn hk hs hob h1) (cwV 2 F.1.2.2.2.2 (lw_V q980 q981 q982 q71 q983) rfl rfl rfl (by decide +kernel) (mRm_ok (by decide) (by decide))) (sM_0 hd) rfl rfl rfl rfl hl.1 rfl (Nat.le_of_ble_eq_true rfl) dX10_lambda_turning_5_3 ⟨Nat.le_of_ble_eq_true rfl, Nat.le_of_ble_eq_true rfl⟩ (fun H locs hM => ?_)
  exact mr_zret F hQ (by first | rfl | exact nZ_bI _) hM ⟨rfl, rfl⟩ (Nat.le_of_ble_eq_true rfl) (Nat.le_of_ble_eq_true rfl) dX10_lambda_turning_5_6
set_option maxHeartbeats 4000000 in
theorem cs_X10_lambda_turning_5_no (l : Launch) {G : mG} {ad : Nat → Nat} {n : Nat} {r : Nat → Int32} {f : Nat → UInt32} {dv : Nat → Int32} {M0 : mM} {d : Nat} {x : Int32} (hd : sAd n ad) (hn : n ≤ 6) (hk : ¬ x = 0 ∧ r (16 + (4 * d + 3)) = nI 1) (h1 : d < 4) : mMet l yX10_lambda_turning_5 (ws_ yX10_lambda_turning_5 cX10_lambda_turning_5 3 (some .boolean)) (mRm 2 0 0) [.int (nI d), .int x, .ref (ad 0)] G (pPre (sM G ad n r f dv M0)) (pPost (sM G ad n r f dv M0) (some (.int (nI 0)))) := by
  refine mMet.of (by decide +kernel) (Nat.le_of_ble_eq_true rfl) fun p e s m args below meth c A Q M hM0 F hnm hQ hM ls hl => ?_
  have hM0 : M = sM G ad n r f dv M0 := hM0
  subst hM0
  have hl : lv_has ls 3 [(0, .int (nI d)), (1, .int x), (2, .ref (ad 0))] := hl
  refine lv_aload_n F.1.1 F.1.2.1 dX10_lambda_turning_5_0 rfl (lv_at hl 2 rfl) ?_
  refine lv_iload_n F.1.1 F.1.2.1 dX10_lambda_turning_5_1 rfl (lv_at hl 0 rfl) ?_
  refine lv_iload_n F.1.1 F.1.2.1 dX10_lambda_turning_5_2 rfl (lv_at hl 1 rfl) ?_
  refine mc_Va (As := [_, _]) F hM (cs_X2_setServo_no l hd hn hk h1) (cwV 2 F.1.2.2.2.2 (lw_V q980 q981 q982 q71 q983) rfl rfl rfl (by decide +kernel) (mRm_ok (by decide) (by decide))) (sM_0 hd) rfl rfl rfl rfl hl.1 rfl (Nat.le_of_ble_eq_true rfl) dX10_lambda_turning_5_3 ⟨Nat.le_of_ble_eq_true rfl, Nat.le_of_ble_eq_true rfl⟩ (fun H locs hM => ?_)
  exact mr_zret F hQ (by first | rfl | exact nZ_bI _) hM ⟨rfl, rfl⟩ (Nat.le_of_ble_eq_true rfl) (Nat.le_of_ble_eq_true rfl) dX10_lambda_turning_5_6
set_option maxHeartbeats 4000000 in
theorem cs_X10_lambda_polishing_6_ok (l : Launch) {G : mG} {ad : Nat → Nat} {n : Nat} {r : Nat → Int32} {f : Nat → UInt32} {dv : Nat → Int32} {M0 : mM} {k : Nat} (hd : sAd n ad) (hn : n ≤ 6) (hI : mInv r f) (hk : k < n) (hv : dv k = -1) : mMet l yX10_lambda_polishing_6 (ws_ yX10_lambda_polishing_6 cX10_lambda_polishing_6 2 (some .boolean)) (mRm 5 0 0) [.int (nI k), .ref (ad 0)] G (pPre (sM G ad n r f dv M0)) (pPost (sM G ad n (nPolR r k 3) (nPolF r f k 3) (dv) M0) (some (.int (nI 1)))) := by
  refine mMet.of (by decide +kernel) (Nat.le_of_ble_eq_true rfl) fun p e s m args below meth c A Q M hM0 F hnm hQ hM ls hl => ?_
  have hM0 : M = sM G ad n r f dv M0 := hM0
  subst hM0
  have hl : lv_has ls 2 [(0, .int (nI k)), (1, .ref (ad 0))] := hl
  refine lv_aload_n F.1.1 F.1.2.1 dX10_lambda_polishing_6_0 rfl (lv_at hl 1 rfl) ?_
  refine lv_iload_n F.1.1 F.1.2.1 dX10_lambda_polishing_6_1 rfl (lv_at hl 0 rfl) ?_
  refine mc_Va (As := [_]) F hM (cs_X2_polish_ok l hd hn hI hk hv) (cwV 1 F.1.2.2.2.2 (lw_V q990 q991 q992 q71 q993) rfl rfl rfl (by decide +kernel) (mRm_ok (by decide) (by decide))) (sM_0 hd) rfl rfl rfl rfl hl.1 rfl (Nat.le_of_ble_eq_true rfl) dX10_lambda_polishing_6_2 ⟨Nat.le_of_ble_eq_true rfl, Nat.le_of_ble_eq_true rfl⟩ (fun H locs hM => ?_)
  exact mr_zret F hQ (by first | rfl | exact nZ_bI _) hM ⟨rfl, rfl⟩ (Nat.le_of_ble_eq_true rfl) (Nat.le_of_ble_eq_true rfl) dX10_lambda_polishing_6_5
set_option maxHeartbeats 4000000 in
theorem cs_X10_lambda_polishing_6_no (l : Launch) {G : mG} {ad : Nat → Nat} {n : Nat} {r : Nat → Int32} {f : Nat → UInt32} {dv : Nat → Int32} {M0 : mM} {k : Nat} (hd : sAd n ad) (hn : n ≤ 6) (hk : k < 100) (hno : ¬ (k < n ∧ dv k = -1)) : mMet l yX10_lambda_polishing_6 (ws_ yX10_lambda_polishing_6 cX10_lambda_polishing_6 2 (some .boolean)) (mRm 5 0 0) [.int (nI k), .ref (ad 0)] G (pPre (sM G ad n r f dv M0)) (pPost (sM G ad n r f dv M0) (some (.int (nI 0)))) := by
  refine mMet.of (by decide +kernel) (Nat.le_of_ble_eq_true rfl) fun p e s m args below meth c A Q M hM0 F hnm hQ hM ls hl => ?_
  have hM0 : M = sM G ad n r f dv M0 := hM0
  subst hM0
  have hl : lv_has ls 2 [(0, .int (nI k)), (1, .ref (ad 0))] := hl
  refine lv_aload_n F.1.1 F.1.2.1 dX10_lambda_polishing_6_0 rfl (lv_at hl 1 rfl) ?_
  refine lv_iload_n F.1.1 F.1.2.1 dX10_lambda_polishing_6_1 rfl (lv_at hl 0 rfl) ?_
  refine mc_Va (As := [_]) F hM (cs_X2_polish_no l hd hn hk hno) (cwV 1 F.1.2.2.2.2 (lw_V q990 q991 q992 q71 q993) rfl rfl rfl (by decide +kernel) (mRm_ok (by decide) (by decide))) (sM_0 hd) rfl rfl rfl rfl hl.1 rfl (Nat.le_of_ble_eq_true rfl) dX10_lambda_polishing_6_2 ⟨Nat.le_of_ble_eq_true rfl, Nat.le_of_ble_eq_true rfl⟩ (fun H locs hM => ?_)
  exact mr_zret F hQ (by first | rfl | exact nZ_bI _) hM ⟨rfl, rfl⟩ (Nat.le_of_ble_eq_true rfl) (Nat.le_of_ble_eq_true rfl) dX10_lambda_polishing_6_5
set_option maxHeartbeats 4000000 in
theorem cs_X10_lambda_mending_7_D (l : Launch) {G : mG} {ad : Nat → Nat} {n : Nat} {r : Nat → Int32} {f : Nat → UInt32} {dv : Nat → Int32} {M0 : mM} {d h : Nat} (hd : sAd n ad) (hn : n ≤ 6) (h1 : d < 4) (h2 : h < 3) : mMet l yX10_lambda_mending_7 (ws_ yX10_lambda_mending_7 cX10_lambda_mending_7 3 (some .boolean)) (mRm 3 0 0) [.int (nI d), .int (nI h), .ref (ad 0)] G (pPre (sM G ad n r f dv M0)) (pPost (sM G ad n (nMend r d h) (f) (dv) M0) (some (.int (nI 1)))) := by
  refine mMet.of (by decide +kernel) (Nat.le_of_ble_eq_true rfl) fun p e s m args below meth c A Q M hM0 F hnm hQ hM ls hl => ?_
  have hM0 : M = sM G ad n r f dv M0 := hM0
  subst hM0
  have hl : lv_has ls 3 [(0, .int (nI d)), (1, .int (nI h)), (2, .ref (ad 0))] := hl
  refine lv_aload_n F.1.1 F.1.2.1 dX10_lambda_mending_7_0 rfl (lv_at hl 2 rfl) ?_
  refine lv_iload_n F.1.1 F.1.2.1 dX10_lambda_mending_7_1 rfl (lv_at hl 0 rfl) ?_
  refine lv_iload_n F.1.1 F.1.2.1 dX10_lambda_mending_7_2 rfl (lv_at hl 1 rfl) ?_
  refine mc_Va (As := [_, _]) F hM (cs_X2_mend_D l hd hn h1 h2) (cwV 2 F.1.2.2.2.2 (lw_V q1005 q1006 q1007 q71 q1008) rfl rfl rfl (by decide +kernel) (mRm_ok (by decide) (by decide))) (sM_0 hd) rfl rfl rfl rfl hl.1 rfl (Nat.le_of_ble_eq_true rfl) dX10_lambda_mending_7_3 ⟨Nat.le_of_ble_eq_true rfl, Nat.le_of_ble_eq_true rfl⟩ (fun H locs hM => ?_)
  exact mr_zret F hQ (by first | rfl | exact nZ_bI _) hM ⟨rfl, rfl⟩ (Nat.le_of_ble_eq_true rfl) (Nat.le_of_ble_eq_true rfl) dX10_lambda_mending_7_6
set_option maxHeartbeats 4000000 in
theorem cs_X10_lambda_mending_7_S (l : Launch) {G : mG} {ad : Nat → Nat} {n : Nat} {r : Nat → Int32} {f : Nat → UInt32} {dv : Nat → Int32} {M0 : mM} {d : Nat} (hd : sAd n ad) (hn : n ≤ 6) (h1 : d < 4) : mMet l yX10_lambda_mending_7 (ws_ yX10_lambda_mending_7 cX10_lambda_mending_7 3 (some .boolean)) (mRm 3 0 0) [.int (nI d), .int (nI 3), .ref (ad 0)] G (pPre (sM G ad n r f dv M0)) (pPost (sM G ad n (nMend r d 3) (f) (dv) M0) (some (.int (nI 1)))) := by
  refine mMet.of (by decide +kernel) (Nat.le_of_ble_eq_true rfl) fun p e s m args below meth c A Q M hM0 F hnm hQ hM ls hl => ?_
  have hM0 : M = sM G ad n r f dv M0 := hM0
  subst hM0
  have hl : lv_has ls 3 [(0, .int (nI d)), (1, .int (nI 3)), (2, .ref (ad 0))] := hl
  refine lv_aload_n F.1.1 F.1.2.1 dX10_lambda_mending_7_0 rfl (lv_at hl 2 rfl) ?_
  refine lv_iload_n F.1.1 F.1.2.1 dX10_lambda_mending_7_1 rfl (lv_at hl 0 rfl) ?_
  refine lv_iload_n F.1.1 F.1.2.1 dX10_lambda_mending_7_2 rfl (lv_at hl 1 rfl) ?_
  refine mc_Va (As := [_, _]) F hM (cs_X2_mend_S l hd hn h1) (cwV 2 F.1.2.2.2.2 (lw_V q1005 q1006 q1007 q71 q1008) rfl rfl rfl (by decide +kernel) (mRm_ok (by decide) (by decide))) (sM_0 hd) rfl rfl rfl rfl hl.1 rfl (Nat.le_of_ble_eq_true rfl) dX10_lambda_mending_7_3 ⟨Nat.le_of_ble_eq_true rfl, Nat.le_of_ble_eq_true rfl⟩ (fun H locs hM => ?_)
  exact mr_zret F hQ (by first | rfl | exact nZ_bI _) hM ⟨rfl, rfl⟩ (Nat.le_of_ble_eq_true rfl) (Nat.le_of_ble_eq_true rfl) dX10_lambda_mending_7_6
