/-! THE SYSTEM: places, signals, retries -/
set_option maxHeartbeats 4000000 in
theorem cs_X2_place_2 (l : Launch) {G : mG} {ad : Nat → Nat} {n : Nat} {r : Nat → Int32} {f : Nat → UInt32} {dv : Nat → Int32} {M0 : mM} {d h k q0 : Nat} (hd : sAd n ad) (hn : n ≤ 6) (h1 : d < 4) (h2 : h < 3) (h3 : k < n) (h4 : q0 < 40) : mMet l yX2_place_2 (ws_ yX2_place_2 cX2_place_2 5 (some .int)) (mRm 4 0 0) [.ref (ad 0), .int (nI d), .int (nI h), .int (nI k), .int (nI q0)] G (pPre (sM G ad n r f dv M0)) (pPost (sM G ad n r f dv M0) (some (.int (mPl r d h k q0)))) := by
  refine mMet.of (by decide +kernel) (Nat.le_of_ble_eq_true rfl) fun p e s m args below meth c A Q M hM0 F hnm hQ hM ls hl => ?_
  have hM0 : M = sM G ad n r f dv M0 := hM0
  subst hM0
  have hl : lv_has ls 5 [(0, .ref (ad 0)), (1, .int (nI d)), (2, .int (nI h)), (3, .int (nI k)), (4, .int (nI q0))] := hl
  refine lv_aload_n F.1.1 F.1.2.1 dX2_place_2_0 rfl (lv_at hl 0 rfl) ?_
  refine cg1 F hM (sM_0 hd) 0 (by decide) q306 (fun x h => h) rfl dX2_place_2_1 ?_
  refine lv_iload_n F.1.1 F.1.2.1 dX2_place_2_4 rfl (lv_at hl 1 rfl) ?_
  refine sr_ld1 F hd hM (by omega) dX2_place_2_5 ?_
  refine lv_iload_n F.1.1 F.1.2.1 dX2_place_2_6 rfl (lv_at hl 2 rfl) ?_
  refine lv_iload_n F.1.1 F.1.2.1 dX2_place_2_7 rfl (lv_at hl 3 rfl) ?_
  refine lv_iload F.1.1 F.1.2.1 dX2_place_2_8 (lv_at hl 4 rfl) ?_
  refine lv_aload_n F.1.1 F.1.2.1 dX2_place_2_10 rfl (lv_at hl 0 rfl) ?_
  refine cg1 F hM (sM_0 hd) 1 (by decide) q308 (fun x h => h) rfl dX2_place_2_11 ?_
  refine lv_iload_n F.1.1 F.1.2.1 dX2_place_2_14 rfl (lv_at hl 3 rfl) ?_
  refine mc_Fa (As := [_]) F hM (cs_J2_get l hd hn (by omega)) (va_cwF 1 F.1.2.2.2.2 (lw_F q827 q830 q832 q74 q834) rfl rfl rfl (mFw F (by decide) q833 q831 q407) (by decide +kernel) (mRm_ok (by decide) (by decide))) (sM_2 hd) rfl rfl (F.2.1.1 9 _ rfl).2 rfl rfl hl.1 rfl (Nat.le_of_ble_eq_true rfl) dX2_place_2_15 ⟨Nat.le_of_ble_eq_true rfl, Nat.le_of_ble_eq_true rfl⟩ (fun H locs hM => ?_)
  refine mr_castS F hM (sM_P hd hn (by omega)) (ci := 6) rfl q843 dX2_place_2_20 ?_
  refine cg6 F hM (sM_P hd hn (by omega)) 0 (by decide) q1126 (fun x h => h) rfl dX2_place_2_23 ?_
  refine mc_Va (As := [_, _, _, _]) F hM (cs_X3_place l hd hn (by omega) (by omega) (by omega) (by omega)) (cwV 4 F.1.2.2.2.2 (lw_V q905 q906 q907 q75 q908) rfl rfl rfl (by decide +kernel) (mRm_ok (by decide) (by decide))) (sM_D hd (by omega)) rfl rfl rfl rfl hl.1 rfl (Nat.le_of_ble_eq_true rfl) dX2_place_2_26 ⟨Nat.le_of_ble_eq_true rfl, Nat.le_of_ble_eq_true rfl⟩ (fun H locs hM => ?_)
  exact mr_iret F hQ hM ⟨rfl, rfl⟩ (Nat.le_of_ble_eq_true rfl) (Nat.le_of_ble_eq_true rfl) dX2_place_2_29
set_option maxHeartbeats 4000000 in
theorem cs_X2_place (l : Launch) {G : mG} {ad : Nat → Nat} {n : Nat} {r : Nat → Int32} {f : Nat → UInt32} {dv : Nat → Int32} {M0 : mM} {d h k q0 : Nat} (hd : sAd n ad) (hn : n ≤ 6) (hp : r (60 + d) = nI k) (hc : r (52 + d) = nI q0) (h1 : d < 4) (h2 : h < 3) (h3 : k < n) (h4 : q0 < 40) : mMet l yX2_place (ws_ yX2_place cX2_place 3 (some .int)) (mRm 5 0 0) [.ref (ad 0), .int (nI d), .int (nI h)] G (pPre (sM G ad n r f dv M0)) (pPost (sM G ad n r f dv M0) (some (.int (mPl r d h k q0)))) := by
  refine mMet.of (by decide +kernel) (Nat.le_of_ble_eq_true rfl) fun p e s m args below meth c A Q M hM0 F hnm hQ hM ls hl => ?_
  have hM0 : M = sM G ad n r f dv M0 := hM0
  subst hM0
  have hl : lv_has ls 3 [(0, .ref (ad 0)), (1, .int (nI d)), (2, .int (nI h))] := hl
  refine lv_aload_n F.1.1 F.1.2.1 dX2_place_0 rfl (lv_at hl 0 rfl) ?_
  refine lv_iload_n F.1.1 F.1.2.1 dX2_place_1 rfl (lv_at hl 1 rfl) ?_
  refine lv_iload_n F.1.1 F.1.2.1 dX2_place_2 rfl (lv_at hl 2 rfl) ?_
  refine lv_aload_n F.1.1 F.1.2.1 dX2_place_3 rfl (lv_at hl 0 rfl) ?_
  refine cg1 F hM (sM_0 hd) 0 (by decide) q306 (fun x h => h) rfl dX2_place_4 ?_
  refine lv_iload_n F.1.1 F.1.2.1 dX2_place_7 rfl (lv_at hl 1 rfl) ?_
  refine sr_ld1 F hd hM (by omega) dX2_place_8 ?_
  refine cg2 F hM (sM_D hd (by omega)) 6 (by decide) q289 (fun x h => h) (congrArg (fun z => some (Value.int z)) hp) dX2_place_9 ?_
  refine lv_aload_n F.1.1 F.1.2.1 dX2_place_12 rfl (lv_at hl 0 rfl) ?_
  refine cg1 F hM (sM_0 hd) 0 (by decide) q306 (fun x h => h) rfl dX2_place_13 ?_
  refine lv_iload_n F.1.1 F.1.2.1 dX2_place_16 rfl (lv_at hl 1 rfl) ?_
  refine sr_ld1 F hd hM (by omega) dX2_place_17 ?_
  refine cg2 F hM (sM_D hd (by omega)) 4 (by decide) q283 (fun x h => h) (congrArg (fun z => some (Value.int z)) hc) dX2_place_18 ?_
  refine mc_Va (As := [_, _, _, _]) F hM (cs_X2_place_2 l hd hn (by omega) (by omega) (by omega) (by omega)) (cwV 4 F.1.2.2.2.2 (lw_V q901 q902 q903 q71 q904) rfl rfl rfl (by decide +kernel) (mRm_ok (by decide) (by decide))) (sM_0 hd) rfl rfl rfl rfl hl.1 rfl (Nat.le_of_ble_eq_true rfl) dX2_place_21 ⟨Nat.le_of_ble_eq_true rfl, Nat.le_of_ble_eq_true rfl⟩ (fun H locs hM => ?_)
  exact mr_iret F hQ hM ⟨rfl, rfl⟩ (Nat.le_of_ble_eq_true rfl) (Nat.le_of_ble_eq_true rfl) dX2_place_24
set_option maxHeartbeats 4000000 in
theorem cs_X2_surface (l : Launch) {G : mG} {ad : Nat → Nat} {n : Nat} {r : Nat → Int32} {f : Nat → UInt32} {dv : Nat → Int32} {M0 : mM} {d h k : Nat} (hd : sAd n ad) (hn : n ≤ 6) (hp : r (60 + d) = nI k) (h1 : d < 4) (h2 : h < 3) (h3 : k < n) : mMet l yX2_surface (ws_ yX2_surface cX2_surface 3 (some (.object "DiskPacks$Surface"))) (mRm 4 0 0) [.ref (ad 0), .int (nI d), .int (nI h)] G (pPre (sM G ad n r f dv M0)) (pPost (sM G ad n r f dv M0) (some (.ref (ad (80 + (3 * k + h)))))) := by
  refine mMet.of (by decide +kernel) (Nat.le_of_ble_eq_true rfl) fun p e s m args below meth c A Q M hM0 F hnm hQ hM ls hl => ?_
  have hM0 : M = sM G ad n r f dv M0 := hM0
  subst hM0
  have hl : lv_has ls 3 [(0, .ref (ad 0)), (1, .int (nI d)), (2, .int (nI h))] := hl
  refine lv_aload_n F.1.1 F.1.2.1 dX2_surface_0 rfl (lv_at hl 0 rfl) ?_
  refine cg1 F hM (sM_0 hd) 1 (by decide) q308 (fun x h => h) rfl dX2_surface_1 ?_
  refine lv_aload_n F.1.1 F.1.2.1 dX2_surface_4 rfl (lv_at hl 0 rfl) ?_
  refine cg1 F hM (sM_0 hd) 0 (by decide) q306 (fun x h => h) rfl dX2_surface_5 ?_
  refine lv_iload_n F.1.1 F.1.2.1 dX2_surface_8 rfl (lv_at hl 1 rfl) ?_
  refine sr_ld1 F hd hM (by omega) dX2_surface_9 ?_
  refine cg2 F hM (sM_D hd (by omega)) 6 (by decide) q289 (fun x h => h) (congrArg (fun z => some (Value.int z)) hp) dX2_surface_10 ?_
  refine mc_Fa (As := [_]) F hM (cs_J2_get l hd hn (by omega)) (va_cwF 1 F.1.2.2.2.2 (lw_F q827 q830 q832 q74 q834) rfl rfl rfl (mFw F (by decide) q833 q831 q407) (by decide +kernel) (mRm_ok (by decide) (by decide))) (sM_2 hd) rfl rfl (F.2.1.1 9 _ rfl).2 rfl rfl hl.1 rfl (Nat.le_of_ble_eq_true rfl) dX2_surface_13 ⟨Nat.le_of_ble_eq_true rfl, Nat.le_of_ble_eq_true rfl⟩ (fun H locs hM => ?_)
  refine mr_castS F hM (sM_P hd hn (by omega)) (ci := 6) rfl q843 dX2_surface_18 ?_
  refine cg6 F hM (sM_P hd hn (by omega)) 1 (by decide) q1130 (fun x h => h) rfl dX2_surface_21 ?_
  refine lv_iload_n F.1.1 F.1.2.1 dX2_surface_24 rfl (lv_at hl 2 rfl) ?_
  refine sr_ldU F hd hn hM (by omega) (by omega) dX2_surface_25 ?_
  exact mr_aret F hQ (by first | exact Or.inl ⟨_, rfl⟩ | exact Or.inr ⟨_, rfl⟩) hM ⟨rfl, rfl⟩ (Nat.le_of_ble_eq_true rfl) (Nat.le_of_ble_eq_true rfl) dX2_surface_26
set_option maxHeartbeats 4000000 in
theorem cs_X2_signal (l : Launch) {G : mG} {ad : Nat → Nat} {n : Nat} {r : Nat → Int32} {f : Nat → UInt32} {dv : Nat → Int32} {M0 : mM} {d h k q0 : Nat} {o : Int32} (hd : sAd n ad) (hn : n ≤ 6) (hI : mInv r f) (h1 : d < 4) (h2 : h < 3) (h3 : k < n) (h4 : q0 < 40) (ho : bnd 40 o) : mMet l yX2_signal (ws_ yX2_signal cX2_signal 8 (some .float)) (mRm 5 0 0) [.ref (ad 0), .int (nI d), .int (nI h), .int (nI k), .int (nI q0), .int o] G (pPre (sM G ad n r f dv M0)) (pPost (sM G ad n r f dv M0) (some (.float (mSg r f d h k q0 o)))) := by
  refine mMet.of (by decide +kernel) (Nat.le_of_ble_eq_true rfl) fun p e s m args below meth c A Q M hM0 F hnm hQ hM ls hl => ?_
  have hM0 : M = sM G ad n r f dv M0 := hM0
  subst hM0
  have hl : lv_has ls 8 [(0, .ref (ad 0)), (1, .int (nI d)), (2, .int (nI h)), (3, .int (nI k)), (4, .int (nI q0)), (5, .int o)] := hl
  have hk6 : k < 6 := by omega
  refine lv_aload_n F.1.1 F.1.2.1 dX2_signal_0 rfl (lv_at hl 0 rfl) ?_
  refine cg1 F hM (sM_0 hd) 1 (by decide) q308 (fun x h => h) rfl dX2_signal_1 ?_
  refine lv_iload_n F.1.1 F.1.2.1 dX2_signal_4 rfl (lv_at hl 3 rfl) ?_
  refine mc_Fa (As := [_]) F hM (cs_J2_get l hd hn (by omega)) (va_cwF 1 F.1.2.2.2.2 (lw_F q827 q830 q832 q74 q834) rfl rfl rfl (mFw F (by decide) q833 q831 q407) (by decide +kernel) (mRm_ok (by decide) (by decide))) (sM_2 hd) rfl rfl (F.2.1.1 9 _ rfl).2 rfl rfl hl.1 rfl (Nat.le_of_ble_eq_true rfl) dX2_signal_5 ⟨Nat.le_of_ble_eq_true rfl, Nat.le_of_ble_eq_true rfl⟩ (fun H locs hM => ?_)
  refine mr_castS F hM (sM_P hd hn (by omega)) (ci := 6) rfl q843 dX2_signal_10 ?_
  refine cg6 F hM (sM_P hd hn (by omega)) 1 (by decide) q1130 (fun x h => h) rfl dX2_signal_13 ?_
  refine lv_iload_n F.1.1 F.1.2.1 dX2_signal_16 rfl (lv_at hl 2 rfl) ?_
  refine sr_ldU F hd hn hM (by omega) (by omega) dX2_signal_17 ?_
  refine lv_astore (lv' := [(6, _), (0, _), (1, _), (2, _), (3, _), (4, _), (5, _)]) F.1.1 F.1.2.1 dX2_signal_18 hl (by decide) rfl (fun ls hl => ?_)
  refine lv_aload F.1.1 F.1.2.1 dX2_signal_20 (lv_at hl 0 rfl) ?_
  refine lv_iload F.1.1 F.1.2.1 dX2_signal_22 (lv_at hl 5 rfl) ?_
  refine lv_aload_n F.1.1 F.1.2.1 dX2_signal_24 rfl (lv_at hl 1 rfl) ?_
  refine lv_iload_n F.1.1 F.1.2.1 dX2_signal_25 rfl (lv_at hl 2 rfl) ?_
  refine lv_iload_n F.1.1 F.1.2.1 dX2_signal_26 rfl (lv_at hl 3 rfl) ?_
  refine lv_iload_n F.1.1 F.1.2.1 dX2_signal_27 rfl (lv_at hl 4 rfl) ?_
  refine lv_iload F.1.1 F.1.2.1 dX2_signal_28 (lv_at hl 5 rfl) ?_
  refine mc_Va (As := [_, _, _, _]) F hM (cs_X2_place_2 l hd hn (by omega) (by omega) (by omega) (by omega)) (cwV 4 F.1.2.2.2.2 (lw_V q901 q902 q903 q71 q904) rfl rfl rfl (by decide +kernel) (mRm_ok (by decide) (by decide))) (sM_0 hd) rfl rfl rfl rfl hl.1 rfl (Nat.le_of_ble_eq_true rfl) dX2_signal_30 ⟨Nat.le_of_ble_eq_true rfl, Nat.le_of_ble_eq_true rfl⟩ (fun H locs hM => ?_)
  refine lv_iload F.1.1 F.1.2.1 dX2_signal_33 (lv_at hl 6 rfl) ?_
  refine lv_iadd F.1.1 F.1.2.1 dX2_signal_35 ?_
  refine mc_Va (As := [_, _]) F hM (cs_X9_signalAt l hd hn (by omega) (by omega) (sg_S hI h2 hk6 h4) (sg_A hI h1 h2 hk6 h4 ho)) (cwV 2 F.1.2.2.2.2 (lw_V q961 q962 q963 q95 q964) rfl rfl rfl (by decide +kernel) (mRm_ok (by decide) (by decide))) (sM_S hd hn (by omega)) rfl rfl rfl rfl hl.1 rfl (Nat.le_of_ble_eq_true rfl) dX2_signal_36 ⟨Nat.le_of_ble_eq_true rfl, Nat.le_of_ble_eq_true rfl⟩ (fun H locs hM => ?_)
  refine lv_fstore (lv' := [(7, _), (6, _), (0, _), (1, _), (2, _), (3, _), (4, _), (5, _)]) F.1.1 F.1.2.1 dX2_signal_39 hl (by decide) rfl (fun ls hl => ?_)
  refine lv_aload_n F.1.1 F.1.2.1 dX2_signal_41 rfl (lv_at hl 2 rfl) ?_
  refine cg1 F hM (sM_0 hd) 0 (by decide) q306 (fun x h => h) rfl dX2_signal_42 ?_
  refine lv_iload_n F.1.1 F.1.2.1 dX2_signal_45 rfl (lv_at hl 3 rfl) ?_
  refine sr_ld1 F hd hM (by omega) dX2_signal_46 ?_
  refine lv_iload_n F.1.1 F.1.2.1 dX2_signal_47 rfl (lv_at hl 4 rfl) ?_
  refine mc_Va (As := [_]) F hM (cs_X3_dataHead l hd hn (by omega) (by omega)) (cwV 1 F.1.2.2.2.2 (lw_V q881 q882 q883 q75 q884) rfl rfl rfl (by decide +kernel) (mRm_ok (by decide) (by decide))) (sM_D hd (by omega)) rfl rfl rfl rfl hl.1 rfl (Nat.le_of_ble_eq_true rfl) dX2_signal_48 ⟨Nat.le_of_ble_eq_true rfl, Nat.le_of_ble_eq_true rfl⟩ (fun H locs hM => ?_)
  refine lv_fload F.1.1 F.1.2.1 dX2_signal_51 (lv_at hl 0 rfl) ?_
  refine mc_Va (As := [_]) F hM (cs_X6_weakened l hd hn (by omega) (by omega) (sg_N hI h1 h2 hk6 h4 ho)) (cwV 1 F.1.2.2.2.2 (lw_V q889 q890 q891 q78 q892) rfl rfl rfl (by decide +kernel) (mRm_ok (by decide) (by decide))) (sM_HD hd (by omega) (by omega)) rfl rfl rfl rfl hl.1 rfl (Nat.le_of_ble_eq_true rfl) dX2_signal_53 ⟨Nat.le_of_ble_eq_true rfl, Nat.le_of_ble_eq_true rfl⟩ (fun H locs hM => ?_)
  exact mr_fret F hQ hM ⟨by rw [← sg_E hI h1 h2 hk6 h4 ho], rfl⟩ (Nat.le_of_ble_eq_true rfl) (Nat.le_of_ble_eq_true rfl) dX2_signal_56
set_option maxHeartbeats 4000000 in
theorem cs_X2_signalAt (l : Launch) {G : mG} {ad : Nat → Nat} {n : Nat} {r : Nat → Int32} {f : Nat → UInt32} {dv : Nat → Int32} {M0 : mM} {d h k q0 : Nat} {o : Int32} (hd : sAd n ad) (hn : n ≤ 6) (hI : mInv r f) (hp : r (60 + d) = nI k) (hc : r (52 + d) = nI q0) (h1 : d < 4) (h2 : h < 3) (h3 : k < n) (h4 : q0 < 40) (ho : bnd 40 o) : mMet l yX2_signalAt (ws_ yX2_signalAt cX2_signalAt 4 (some .float)) (mRm 6 0 0) [.ref (ad 0), .int (nI d), .int (nI h), .int o] G (pPre (sM G ad n r f dv M0)) (pPost (sM G ad n r f dv M0) (some (.float (mSg r f d h k q0 o)))) := by
  refine mMet.of (by decide +kernel) (Nat.le_of_ble_eq_true rfl) fun p e s m args below meth c A Q M hM0 F hnm hQ hM ls hl => ?_
  have hM0 : M = sM G ad n r f dv M0 := hM0
  subst hM0
  have hl : lv_has ls 4 [(0, .ref (ad 0)), (1, .int (nI d)), (2, .int (nI h)), (3, .int o)] := hl
  refine lv_aload_n F.1.1 F.1.2.1 dX2_signalAt_0 rfl (lv_at hl 0 rfl) ?_
  refine lv_iload_n F.1.1 F.1.2.1 dX2_signalAt_1 rfl (lv_at hl 1 rfl) ?_
  refine lv_iload_n F.1.1 F.1.2.1 dX2_signalAt_2 rfl (lv_at hl 2 rfl) ?_
  refine lv_aload_n F.1.1 F.1.2.1 dX2_signalAt_3 rfl (lv_at hl 0 rfl) ?_
  refine cg1 F hM (sM_0 hd) 0 (by decide) q306 (fun x h => h) rfl dX2_signalAt_4 ?_
  refine lv_iload_n F.1.1 F.1.2.1 dX2_signalAt_7 rfl (lv_at hl 1 rfl) ?_
  refine sr_ld1 F hd hM (by omega) dX2_signalAt_8 ?_
  refine cg2 F hM (sM_D hd (by omega)) 6 (by decide) q289 (fun x h => h) (congrArg (fun z => some (Value.int z)) hp) dX2_signalAt_9 ?_
  refine lv_aload_n F.1.1 F.1.2.1 dX2_signalAt_12 rfl (lv_at hl 0 rfl) ?_
  refine cg1 F hM (sM_0 hd) 0 (by decide) q306 (fun x h => h) rfl dX2_signalAt_13 ?_
  refine lv_iload_n F.1.1 F.1.2.1 dX2_signalAt_16 rfl (lv_at hl 1 rfl) ?_
  refine sr_ld1 F hd hM (by omega) dX2_signalAt_17 ?_
  refine cg2 F hM (sM_D hd (by omega)) 4 (by decide) q283 (fun x h => h) (congrArg (fun z => some (Value.int z)) hc) dX2_signalAt_18 ?_
  refine lv_iload_n F.1.1 F.1.2.1 dX2_signalAt_21 rfl (lv_at hl 3 rfl) ?_
  refine mc_Va (As := [_, _, _, _, _]) F hM (cs_X2_signal l hd hn (by assumption) (by omega) (by omega) (by omega) (by omega) (by assumption)) (cwV 5 F.1.2.2.2.2 (lw_V q957 q959 qs15 q71 q960) rfl rfl rfl (by decide +kernel) (mRm_ok (by decide) (by decide))) (sM_0 hd) rfl rfl rfl rfl hl.1 rfl (Nat.le_of_ble_eq_true rfl) dX2_signalAt_22 ⟨Nat.le_of_ble_eq_true rfl, Nat.le_of_ble_eq_true rfl⟩ (fun H locs hM => ?_)
  exact mr_fret F hQ hM ⟨rfl, rfl⟩ (Nat.le_of_ble_eq_true rfl) (Nat.le_of_ble_eq_true rfl) dX2_signalAt_25
set_option maxHeartbeats 4000000 in
theorem cs_X2_retries_2 (l : Launch) {G : mG} {ad : Nat → Nat} {n : Nat} {r : Nat → Int32} {f : Nat → UInt32} {dv : Nat → Int32} {M0 : mM} {d h k q0 t : Nat} (hd : sAd n ad) (hn : n ≤ 6) (hI : mInv r f) (ht : r 88 = nI t) (ht8 : t ≤ 8) (h1 : d < 4) (h2 : h < 3) (h3 : k < n) (h4 : q0 < 40) : mMet l yX2_retries_2 (ws_ yX2_retries_2 cX2_retries_2 6 (some .int)) (mRm 6 0 0) [.ref (ad 0), .int (nI d), .int (nI h), .int (nI k), .int (nI q0)] G (pPre (sM G ad n r f dv M0)) (pPost (sM G ad n r f dv M0) (some (.int (mRt r f d h k q0 t)))) := by
  refine mMet.of (by decide +kernel) (Nat.le_of_ble_eq_true rfl) fun p e s m args below meth c A Q M hM0 F hnm hQ hM ls hl => ?_
  have hM0 : M = sM G ad n r f dv M0 := hM0
  subst hM0
  have hl : lv_has ls 6 [(0, .ref (ad 0)), (1, .int (nI d)), (2, .int (nI h)), (3, .int (nI k)), (4, .int (nI q0))] := hl
  refine mr_iconst F 0 dX2_retries_2_0 (by decide +kernel) ?_
  refine lv_istore (lv' := [(5, _), (0, _), (1, _), (2, _), (3, _), (4, _)]) F.1.1 F.1.2.1 dX2_retries_2_1 hl (by decide) rfl (fun ls hl => ?_)
  have lp : ∀ i j : Nat, j + i = 2 * t + 1 → mRt r f d h k q0 t = mFst (fun k0 => mOk (mSg r f d h k q0 (mTr k0))) i j → ∀ (H : Heap) (locs : List Loc), mWd G A s.heap (sM G ad n r f dv M0) H locs → ∀ ls : Array Slot, lv_has ls 6 [(5, .int (nI j)), (0, .ref (ad 0)), (1, .int (nI d)), (2, .int (nI h)), (3, .int (nI k)), (4, .int (nI q0))] → W p l e (mRm 6 0 0) s m args below meth c H locs 0 0 Q (F0 m 3 ls []) := by
    intro i
    induction i with
    | zero =>
      intro j hk hj H locs hM ls hl
      refine lv_iload F.1.1 F.1.2.1 dX2_retries_2_3 (lv_at hl 0 rfl) ?_
      refine mr_iconst F 2 dX2_retries_2_5 (by decide +kernel) ?_
      refine lv_aload_n F.1.1 F.1.2.1 dX2_retries_2_6 rfl (lv_at hl 1 rfl) ?_
      refine cg1 F hM (sM_0 hd) 4 (by decide) q314 (fun x h => h) (congrArg (fun z => some (Value.int z)) ht) dX2_retries_2_7 ?_
      refine mr_imulN F dX2_retries_2_10 ?_
      refine mr_icmp_gtN F (tgt := 43) dX2_retries_2_11 (by decide) (by omega) (by omega) (fun c11 => ?_) (fun c11 => ?_)
      · refine lv_iconst (v := -1) F.1.1 F.1.2.1 dX2_retries_2_43 (by decide +kernel) ?_
        exact mr_iret F hQ hM ⟨by rw [hj]; rfl, rfl⟩ (Nat.le_of_ble_eq_true rfl) (Nat.le_of_ble_eq_true rfl) dX2_retries_2_44
      · exact absurd c11 (by omega)
    | succ i ih =>
      intro j hk hj H locs hM ls hl
      have hT := mTr_bnd (show j < 17 by omega)
      refine lv_iload F.1.1 F.1.2.1 dX2_retries_2_3 (lv_at hl 0 rfl) ?_
      refine mr_iconst F 2 dX2_retries_2_5 (by decide +kernel) ?_
      refine lv_aload_n F.1.1 F.1.2.1 dX2_retries_2_6 rfl (lv_at hl 1 rfl) ?_
      refine cg1 F hM (sM_0 hd) 4 (by decide) q314 (fun x h => h) (congrArg (fun z => some (Value.int z)) ht) dX2_retries_2_7 ?_
      refine mr_imulN F dX2_retries_2_10 ?_
      refine mr_icmp_gtN F (tgt := 43) dX2_retries_2_11 (by decide) (by omega) (by omega) (fun c11 => ?_) (fun c11 => ?_)
      · exact absurd c11 (by omega)
      · refine lv_aload_n F.1.1 F.1.2.1 dX2_retries_2_14 rfl (lv_at hl 1 rfl) ?_
        refine lv_iload_n F.1.1 F.1.2.1 dX2_retries_2_15 rfl (lv_at hl 2 rfl) ?_
        refine lv_iload_n F.1.1 F.1.2.1 dX2_retries_2_16 rfl (lv_at hl 3 rfl) ?_
        refine lv_iload_n F.1.1 F.1.2.1 dX2_retries_2_17 rfl (lv_at hl 4 rfl) ?_
        refine lv_iload F.1.1 F.1.2.1 dX2_retries_2_18 (lv_at hl 5 rfl) ?_
        refine lv_iload F.1.1 F.1.2.1 dX2_retries_2_20 (lv_at hl 0 rfl) ?_
        refine mc_Sa (As := [_]) F hM (cs_X2_offset l (by omega)) (va_cwS 1 F.1.2.2.2.2 (lw_S q954 q955 q71 q956) rfl rfl rfl (by decide +kernel) (mRm_ok (by decide) (by decide))) rfl rfl hl.1 rfl (Nat.le_of_ble_eq_true rfl) dX2_retries_2_22 ⟨Nat.le_of_ble_eq_true rfl, Nat.le_of_ble_eq_true rfl⟩ (fun H locs hM => ?_)
        refine mc_Va (As := [_, _, _, _, _]) F hM (cs_X2_signal l hd hn hI (by omega) (by omega) (by omega) (by omega) hT) (cwV 5 F.1.2.2.2.2 (lw_V q957 q959 qs15 q71 q960) rfl rfl rfl (by decide +kernel) (mRm_ok (by decide) (by decide))) (sM_0 hd) rfl rfl rfl rfl hl.1 rfl (Nat.le_of_ble_eq_true rfl) dX2_retries_2_25 ⟨Nat.le_of_ble_eq_true rfl, Nat.le_of_ble_eq_true rfl⟩ (fun H locs hM => ?_)
        refine lv_ldcf F.1.1 F.1.2.1 F.1.2.2.2.1 (F.1.2.2.2.2 _ q969) dX2_retries_2_28 ?_
        refine lv_fcmp F.1.1 F.1.2.1 dX2_retries_2_30 ?_
        refine lv_if_lt (tgt := 37) F.1.1 F.1.2.1 dX2_retries_2_31 (by decide) (fun c31 => ?_) (fun c31 => ?_)
        · refine lv_iinc (lv' := [(5, _), (0, _), (1, _), (2, _), (3, _), (4, _)]) F.1.1 F.1.2.1 dX2_retries_2_37 hl (k := 0) rfl (nK_add _ 1) (by decide) rfl (fun ls hl => ?_)
          refine lv_goto (tgt := 3) F.1.1 F.1.2.1 dX2_retries_2_40 (by decide) ?_
          exact ih (j + 1) (by omega) (by rw [hj, mFst_f (show ¬ mOk (mSg r f d h k q0 (mTr j)) from fun q => q c31)]) _ _ hM _ (lv_sub hl [0, 1, 2, 3, 4, 5] rfl)
        · refine lv_iload F.1.1 F.1.2.1 dX2_retries_2_34 (lv_at hl 0 rfl) ?_
          exact mr_iret F hQ hM ⟨by rw [hj, mFst_t (show mOk (mSg r f d h k q0 (mTr j)) from c31)], rfl⟩ (Nat.le_of_ble_eq_true rfl) (Nat.le_of_ble_eq_true rfl) dX2_retries_2_36
  exact lp (2 * t + 1) 0 (by omega) rfl _ _ hM _ hl
set_option maxHeartbeats 4000000 in
theorem cs_X2_retries (l : Launch) {G : mG} {ad : Nat → Nat} {n : Nat} {r : Nat → Int32} {f : Nat → UInt32} {dv : Nat → Int32} {M0 : mM} {d h k q0 t : Nat} (hd : sAd n ad) (hn : n ≤ 6) (hI : mInv r f) (hp : r (60 + d) = nI k) (hc : r (52 + d) = nI q0) (ht : r 88 = nI t) (ht8 : t ≤ 8) (h1 : d < 4) (h2 : h < 3) (h3 : k < n) (h4 : q0 < 40) : mMet l yX2_retries (ws_ yX2_retries cX2_retries 3 (some .int)) (mRm 7 0 0) [.ref (ad 0), .int (nI d), .int (nI h)] G (pPre (sM G ad n r f dv M0)) (pPost (sM G ad n r f dv M0) (some (.int (mRt r f d h k q0 t)))) := by
  refine mMet.of (by decide +kernel) (Nat.le_of_ble_eq_true rfl) fun p e s m args below meth c A Q M hM0 F hnm hQ hM ls hl => ?_
  have hM0 : M = sM G ad n r f dv M0 := hM0
  subst hM0
  have hl : lv_has ls 3 [(0, .ref (ad 0)), (1, .int (nI d)), (2, .int (nI h))] := hl
  refine lv_aload_n F.1.1 F.1.2.1 dX2_retries_0 rfl (lv_at hl 0 rfl) ?_
  refine lv_iload_n F.1.1 F.1.2.1 dX2_retries_1 rfl (lv_at hl 1 rfl) ?_
  refine lv_iload_n F.1.1 F.1.2.1 dX2_retries_2 rfl (lv_at hl 2 rfl) ?_
  refine lv_aload_n F.1.1 F.1.2.1 dX2_retries_3 rfl (lv_at hl 0 rfl) ?_
  refine cg1 F hM (sM_0 hd) 0 (by decide) q306 (fun x h => h) rfl dX2_retries_4 ?_
  refine lv_iload_n F.1.1 F.1.2.1 dX2_retries_7 rfl (lv_at hl 1 rfl) ?_
  refine sr_ld1 F hd hM (by omega) dX2_retries_8 ?_
  refine cg2 F hM (sM_D hd (by omega)) 6 (by decide) q289 (fun x h => h) (congrArg (fun z => some (Value.int z)) hp) dX2_retries_9 ?_
  refine lv_aload_n F.1.1 F.1.2.1 dX2_retries_12 rfl (lv_at hl 0 rfl) ?_
  refine cg1 F hM (sM_0 hd) 0 (by decide) q306 (fun x h => h) rfl dX2_retries_13 ?_
  refine lv_iload_n F.1.1 F.1.2.1 dX2_retries_16 rfl (lv_at hl 1 rfl) ?_
  refine sr_ld1 F hd hM (by omega) dX2_retries_17 ?_
  refine cg2 F hM (sM_D hd (by omega)) 4 (by decide) q283 (fun x h => h) (congrArg (fun z => some (Value.int z)) hc) dX2_retries_18 ?_
  refine mc_Va (As := [_, _, _, _]) F hM (cs_X2_retries_2 l hd hn (by assumption) (by assumption) (by omega) (by omega) (by omega) (by omega) (by omega)) (cwV 4 F.1.2.2.2.2 (lw_V q950 q951 q952 q71 q953) rfl rfl rfl (by decide +kernel) (mRm_ok (by decide) (by decide))) (sM_0 hd) rfl rfl rfl rfl hl.1 rfl (Nat.le_of_ble_eq_true rfl) dX2_retries_21 ⟨Nat.le_of_ble_eq_true rfl, Nat.le_of_ble_eq_true rfl⟩ (fun H locs hM => ?_)
  exact mr_iret F hQ hM ⟨rfl, rfl⟩ (Nat.le_of_ble_eq_true rfl) (Nat.le_of_ble_eq_true rfl) dX2_retries_24
