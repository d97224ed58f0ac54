/-! DISKPACKS: signals, retries, sums -/
set_option maxHeartbeats 4000000 in
theorem cs_X1_signal (l : Launch) {G : mG} {ad : Nat → Nat} {n : Nat} {r : Nat → Int32} {f : Nat → UInt32} {dv : Nat → Int32} {M0 : mM} {x : Nat} {v1 v2 v3 : Value} {d h k q0 : Nat} {o : Int32} (hd : sAd n ad) (hn : n ≤ 6) (hS : sAt G ad n r f dv M0) (h_x : M0 x = some (eO 0 [.ref (ad 0), v1, v2, v3])) (h1 : d < 4) (h2 : h < 3) (hp : r (60 + d) = nI k) (h3 : k < n) (hc : r (52 + d) = nI q0) (h4 : q0 < 40) (h5 : -40 ≤ o) (h6 : o ≤ nI 40) (ho : bnd 40 o) (hI : mInv r f) : mMet l yX1_signal (ws_ yX1_signal cX1_signal 4 (some .float)) (mRm 10 1 3) [.ref x, .int (nI d), .int (nI h), .int o] G (pPre M0) (pPost M0 (some (.float (mSg r f d h k q0 o)))) := by
  refine mMet.of (by decide +kernel) (Nat.le_of_ble_eq_true rfl) fun p e s m args below meth c A Q M hM0 F hnm hQ hM ls hl => ?_
  have hM0 : M0 = M := hM0.symm
  subst hM0
  have hl : lv_has ls 4 [(0, .ref x), (1, .int (nI d)), (2, .int (nI h)), (3, .int o)] := hl
  refine lv_aload_n F.1.1 F.1.2.1 dX1_signal_0 rfl (lv_at hl 0 rfl) ?_
  refine lv_iload_n F.1.1 F.1.2.1 dX1_signal_1 rfl (lv_at hl 1 rfl) ?_
  refine lv_iload_n F.1.1 F.1.2.1 dX1_signal_2 rfl (lv_at hl 2 rfl) ?_
  refine mc_Vv (As := [_, _]) F hM (cs_X1_checkData l hd hn hS h_x h1 h2) (cwV 2 F.1.2.2.2.2 (lw_V q1404 q1406 qs30 q70 q1407) rfl rfl rfl (by decide +kernel) (mRm_ok (by decide) (by decide))) h_x rfl rfl rfl rfl hl.1 rfl (Nat.le_of_ble_eq_true rfl) dX1_signal_3 ⟨Nat.le_of_ble_eq_true rfl, Nat.le_of_ble_eq_true rfl⟩ (fun H locs hM => ?_)
  refine lv_iload_n F.1.1 F.1.2.1 dX1_signal_6 rfl (lv_at hl 3 rfl) ?_
  refine lv_bipush (v := -40) F.1.1 F.1.2.1 dX1_signal_7 (by decide +kernel) ?_
  refine mr_bipush F 40 dX1_signal_9 (by decide +kernel) ?_
  refine mc_Sv (As := [_, _, _]) F hM (cs_X1_checkRange l h5 h6) (va_cwS 3 F.1.2.2.2.2 (lw_S q1240 q1241 q70 q1242) rfl rfl rfl (by decide +kernel) (mRm_ok (by decide) (by decide))) rfl rfl hl.1 rfl (Nat.le_of_ble_eq_true rfl) dX1_signal_11 ⟨Nat.le_of_ble_eq_true rfl, Nat.le_of_ble_eq_true rfl⟩ (fun H locs hM => ?_)
  refine lv_aload_n F.1.1 F.1.2.1 dX1_signal_14 rfl (lv_at hl 0 rfl) ?_
  refine cg0 F hM h_x 0 (by decide) q385 (fun x h => h) rfl dX1_signal_15 ?_
  refine lv_iload_n F.1.1 F.1.2.1 dX1_signal_18 rfl (lv_at hl 1 rfl) ?_
  refine mc_Va (As := [_]) F hM (hS.q2 hd (cs_X2_hasPack l hd hn h1)) (cwV 1 F.1.2.2.2.2 (lw_V q1380 q820 q821 q71 q822) rfl rfl rfl (by decide +kernel) (mRm_ok (by decide) (by decide))) (sq_0 hS) rfl rfl rfl rfl hl.1 rfl (Nat.le_of_ble_eq_true rfl) dX1_signal_19 ⟨Nat.le_of_ble_eq_true rfl, Nat.le_of_ble_eq_true rfl⟩ (fun H locs hM => ?_)
  refine mc_Sv (As := [_]) F hM (cs_X1_checkState l (by rw [bI_t (show ¬ r (60 + d) = -1 by rw [hp]; exact m1_ne_nI (by omega))]; decide)) (va_cwS 1 F.1.2.2.2.2 (lw_S q1313 q1314 q70 q1315) rfl rfl rfl (by decide +kernel) (mRm_ok (by decide) (by decide))) rfl rfl hl.1 rfl (Nat.le_of_ble_eq_true rfl) dX1_signal_22 ⟨Nat.le_of_ble_eq_true rfl, Nat.le_of_ble_eq_true rfl⟩ (fun H locs hM => ?_)
  refine lv_aload_n F.1.1 F.1.2.1 dX1_signal_25 rfl (lv_at hl 0 rfl) ?_
  refine cg0 F hM h_x 0 (by decide) q385 (fun x h => h) rfl dX1_signal_26 ?_
  refine lv_iload_n F.1.1 F.1.2.1 dX1_signal_29 rfl (lv_at hl 1 rfl) ?_
  refine lv_iload_n F.1.1 F.1.2.1 dX1_signal_30 rfl (lv_at hl 2 rfl) ?_
  refine lv_iload_n F.1.1 F.1.2.1 dX1_signal_31 rfl (lv_at hl 3 rfl) ?_
  refine mc_Va (As := [_, _, _]) F hM (hS.q2 hd (cs_X2_signalAt l hd hn hI hp hc h1 h2 h3 h4 ho)) (cwV 3 F.1.2.2.2.2 (lw_V q1577 q1578 q1579 q71 q1580) rfl rfl rfl (by decide +kernel) (mRm_ok (by decide) (by decide))) (sq_0 hS) rfl rfl rfl rfl hl.1 rfl (Nat.le_of_ble_eq_true rfl) dX1_signal_32 ⟨Nat.le_of_ble_eq_true rfl, Nat.le_of_ble_eq_true rfl⟩ (fun H locs hM => ?_)
  exact mr_fret F hQ hM ⟨rfl, rfl⟩ (Nat.le_of_ble_eq_true rfl) (Nat.le_of_ble_eq_true rfl) dX1_signal_35
set_option maxHeartbeats 4000000 in
theorem cs_X1_signalBits (l : Launch) {G : mG} {ad : Nat → Nat} {n : Nat} {r : Nat → Int32} {f : Nat → UInt32} {dv : Nat → Int32} {M0 : mM} {x : Nat} {v1 v2 v3 : Value} {d h k q0 : Nat} {o : Int32} (hd : sAd n ad) (hn : n ≤ 6) (hS : sAt G ad n r f dv M0) (h_x : M0 x = some (eO 0 [.ref (ad 0), v1, v2, v3])) (h1 : d < 4) (h2 : h < 3) (hp : r (60 + d) = nI k) (h3 : k < n) (hc : r (52 + d) = nI q0) (h4 : q0 < 40) (h5 : -40 ≤ o) (h6 : o ≤ nI 40) (ho : bnd 40 o) (hI : mInv r f) : mMet l yX1_signalBits (ws_ yX1_signalBits cX1_signalBits 4 (some .int)) (mRm 10 1 3) [.ref x, .int (nI d), .int (nI h), .int o] G (pPre M0) (pPost M0 (some (.int (mFb (mSg r f d h k q0 o))))) := by
  refine mMet.of (by decide +kernel) (Nat.le_of_ble_eq_true rfl) fun p e s m args below meth c A Q M hM0 F hnm hQ hM ls hl => ?_
  have hM0 : M0 = M := hM0.symm
  subst hM0
  have hl : lv_has ls 4 [(0, .ref x), (1, .int (nI d)), (2, .int (nI h)), (3, .int o)] := hl
  refine lv_aload_n F.1.1 F.1.2.1 dX1_signalBits_0 rfl (lv_at hl 0 rfl) ?_
  refine lv_iload_n F.1.1 F.1.2.1 dX1_signalBits_1 rfl (lv_at hl 1 rfl) ?_
  refine lv_iload_n F.1.1 F.1.2.1 dX1_signalBits_2 rfl (lv_at hl 2 rfl) ?_
  refine mc_Vv (As := [_, _]) F hM (cs_X1_checkData l hd hn hS h_x h1 h2) (cwV 2 F.1.2.2.2.2 (lw_V q1404 q1406 qs30 q70 q1407) rfl rfl rfl (by decide +kernel) (mRm_ok (by decide) (by decide))) h_x rfl rfl rfl rfl hl.1 rfl (Nat.le_of_ble_eq_true rfl) dX1_signalBits_3 ⟨Nat.le_of_ble_eq_true rfl, Nat.le_of_ble_eq_true rfl⟩ (fun H locs hM => ?_)
  refine lv_iload_n F.1.1 F.1.2.1 dX1_signalBits_6 rfl (lv_at hl 3 rfl) ?_
  refine lv_bipush (v := -40) F.1.1 F.1.2.1 dX1_signalBits_7 (by decide +kernel) ?_
  refine mr_bipush F 40 dX1_signalBits_9 (by decide +kernel) ?_
  refine mc_Sv (As := [_, _, _]) F hM (cs_X1_checkRange l h5 h6) (va_cwS 3 F.1.2.2.2.2 (lw_S q1240 q1241 q70 q1242) rfl rfl rfl (by decide +kernel) (mRm_ok (by decide) (by decide))) rfl rfl hl.1 rfl (Nat.le_of_ble_eq_true rfl) dX1_signalBits_11 ⟨Nat.le_of_ble_eq_true rfl, Nat.le_of_ble_eq_true rfl⟩ (fun H locs hM => ?_)
  refine lv_aload_n F.1.1 F.1.2.1 dX1_signalBits_14 rfl (lv_at hl 0 rfl) ?_
  refine cg0 F hM h_x 0 (by decide) q385 (fun x h => h) rfl dX1_signalBits_15 ?_
  refine lv_iload_n F.1.1 F.1.2.1 dX1_signalBits_18 rfl (lv_at hl 1 rfl) ?_
  refine mc_Va (As := [_]) F hM (hS.q2 hd (cs_X2_hasPack l hd hn h1)) (cwV 1 F.1.2.2.2.2 (lw_V q1380 q820 q821 q71 q822) rfl rfl rfl (by decide +kernel) (mRm_ok (by decide) (by decide))) (sq_0 hS) rfl rfl rfl rfl hl.1 rfl (Nat.le_of_ble_eq_true rfl) dX1_signalBits_19 ⟨Nat.le_of_ble_eq_true rfl, Nat.le_of_ble_eq_true rfl⟩ (fun H locs hM => ?_)
  refine mc_Sv (As := [_]) F hM (cs_X1_checkState l (by rw [bI_t (show ¬ r (60 + d) = -1 by rw [hp]; exact m1_ne_nI (by omega))]; decide)) (va_cwS 1 F.1.2.2.2.2 (lw_S q1313 q1314 q70 q1315) rfl rfl rfl (by decide +kernel) (mRm_ok (by decide) (by decide))) rfl rfl hl.1 rfl (Nat.le_of_ble_eq_true rfl) dX1_signalBits_22 ⟨Nat.le_of_ble_eq_true rfl, Nat.le_of_ble_eq_true rfl⟩ (fun H locs hM => ?_)
  refine lv_aload_n F.1.1 F.1.2.1 dX1_signalBits_25 rfl (lv_at hl 0 rfl) ?_
  refine cg0 F hM h_x 0 (by decide) q385 (fun x h => h) rfl dX1_signalBits_26 ?_
  refine lv_iload_n F.1.1 F.1.2.1 dX1_signalBits_29 rfl (lv_at hl 1 rfl) ?_
  refine lv_iload_n F.1.1 F.1.2.1 dX1_signalBits_30 rfl (lv_at hl 2 rfl) ?_
  refine lv_iload_n F.1.1 F.1.2.1 dX1_signalBits_31 rfl (lv_at hl 3 rfl) ?_
  refine mc_Va (As := [_, _, _]) F hM (hS.q2 hd (cs_X2_signalAt l hd hn hI hp hc h1 h2 h3 h4 ho)) (cwV 3 F.1.2.2.2.2 (lw_V q1577 q1578 q1579 q71 q1580) rfl rfl rfl (by decide +kernel) (mRm_ok (by decide) (by decide))) (sq_0 hS) rfl rfl rfl rfl hl.1 rfl (Nat.le_of_ble_eq_true rfl) dX1_signalBits_32 ⟨Nat.le_of_ble_eq_true rfl, Nat.le_of_ble_eq_true rfl⟩ (fun H locs hM => ?_)
  refine mc_Sa (As := [_]) F hM (ct_floatToIntBits l ) (va_cwS 1 F.1.2.2.2.2 (lw_S q1588 q1589 q102 q1590) rfl rfl rfl (by decide +kernel) (mRm_ok (by decide) (by decide))) rfl rfl hl.1 rfl (Nat.le_of_ble_eq_true rfl) dX1_signalBits_35 ⟨Nat.le_of_ble_eq_true rfl, Nat.le_of_ble_eq_true rfl⟩ (fun H locs hM => ?_)
  exact mr_iret F hQ hM ⟨rfl, rfl⟩ (Nat.le_of_ble_eq_true rfl) (Nat.le_of_ble_eq_true rfl) dX1_signalBits_38
set_option maxHeartbeats 4000000 in
theorem cx_X1_signal_1 (l : Launch) (htr : l.stackTraces = false) {G : mG} {ad : Nat → Nat} {n : Nat} {r : Nat → Int32} {f : Nat → UInt32} {dv : Nat → Int32} {M0 : mM} {x : Nat} {v1 v2 v3 : Value} {u w z : Int32} (hd : sAd n ad) (hn : n ≤ 6) (hS : sAt G ad n r f dv M0) (h_x : M0 x = some (eO 0 [.ref (ad 0), v1, v2, v3])) (hno : ¬ (inN u 4 ∧ inN w 3)) : mNo l yX1_signal (ws_ yX1_signal cX1_signal 4 (some .float)) (mRm 110 20 200) [.ref x, .int u, .int w, .int z] G M0 "java/lang/IndexOutOfBoundsException" := by
  refine mMetX.of (by decide +kernel) (Nat.le_of_ble_eq_true rfl) fun p e s m args below meth c A Q M hM0 F hnm hQ hQX htab hM ls hl => ?_
  have hM0 : M0 = M := hM0.symm
  subst hM0
  have hl : lv_has ls 4 [(0, .ref x), (1, .int u), (2, .int w), (3, .int z)] := hl
  refine lv_aload_n F.1.1 F.1.2.1 dX1_signal_0 rfl (lv_at hl 0 rfl) ?_
  refine lv_iload_n F.1.1 F.1.2.1 dX1_signal_1 rfl (lv_at hl 1 rfl) ?_
  refine lv_iload_n F.1.1 F.1.2.1 dX1_signal_2 rfl (lv_at hl 2 rfl) ?_
  exact mx_Vn (As := [_, _]) F hM (cx_X1_checkData l htr hd hn hS h_x hno) (cwV 2 F.1.2.2.2.2 (lw_V q1404 q1406 qs30 q70 q1407) rfl rfl rfl (by decide +kernel) (mRm_ok (by decide) (by decide))) h_x (ci := 0) rfl rfl rfl hl.1 rfl (Nat.le_of_ble_eq_true rfl) dX1_signal_3 ⟨(Nat.le_of_ble_eq_true rfl), (Nat.le_of_ble_eq_true rfl)⟩ hQX htab (Nat.le_of_ble_eq_true rfl) (Nat.le_of_ble_eq_true rfl) ⟨rfl, rfl⟩
set_option maxHeartbeats 4000000 in
theorem cx_X1_signal_2 (l : Launch) (htr : l.stackTraces = false) {G : mG} {ad : Nat → Nat} {n : Nat} {r : Nat → Int32} {f : Nat → UInt32} {dv : Nat → Int32} {M0 : mM} {x : Nat} {v1 v2 v3 : Value} {d h : Nat} {z : Int32} (hd : sAd n ad) (hn : n ≤ 6) (hS : sAt G ad n r f dv M0) (h_x : M0 x = some (eO 0 [.ref (ad 0), v1, v2, v3])) (h1 : d < 4) (h2 : h < 3) (hno : ¬ (-40 ≤ z ∧ z ≤ nI 40)) : mNo l yX1_signal (ws_ yX1_signal cX1_signal 4 (some .float)) (mRm 110 20 200) [.ref x, .int (nI d), .int (nI h), .int z] G M0 "java/lang/IllegalArgumentException" := by
  refine mMetX.of (by decide +kernel) (Nat.le_of_ble_eq_true rfl) fun p e s m args below meth c A Q M hM0 F hnm hQ hQX htab hM ls hl => ?_
  have hM0 : M0 = M := hM0.symm
  subst hM0
  have hl : lv_has ls 4 [(0, .ref x), (1, .int (nI d)), (2, .int (nI h)), (3, .int z)] := hl
  refine lv_aload_n F.1.1 F.1.2.1 dX1_signal_0 rfl (lv_at hl 0 rfl) ?_
  refine lv_iload_n F.1.1 F.1.2.1 dX1_signal_1 rfl (lv_at hl 1 rfl) ?_
  refine lv_iload_n F.1.1 F.1.2.1 dX1_signal_2 rfl (lv_at hl 2 rfl) ?_
  refine mc_Vv (As := [_, _]) F hM (cs_X1_checkData l hd hn hS h_x h1 h2) (cwV 2 F.1.2.2.2.2 (lw_V q1404 q1406 qs30 q70 q1407) rfl rfl rfl (by decide +kernel) (mRm_ok (by decide) (by decide))) h_x rfl rfl rfl rfl hl.1 rfl (Nat.le_of_ble_eq_true rfl) dX1_signal_3 ⟨Nat.le_of_ble_eq_true rfl, Nat.le_of_ble_eq_true rfl⟩ (fun H locs hM => ?_)
  refine lv_iload_n F.1.1 F.1.2.1 dX1_signal_6 rfl (lv_at hl 3 rfl) ?_
  refine lv_bipush (v := -40) F.1.1 F.1.2.1 dX1_signal_7 (by decide +kernel) ?_
  refine mr_bipush F 40 dX1_signal_9 (by decide +kernel) ?_
  exact mx_Sn (As := [_, _, _]) F hM (cx_X1_checkRange l htr hno) (va_cwS 3 F.1.2.2.2.2 (lw_S q1240 q1241 q70 q1242) rfl rfl rfl (by decide +kernel) (mRm_ok (by decide) (by decide))) rfl hl.1 rfl (Nat.le_of_ble_eq_true rfl) dX1_signal_11 ⟨(Nat.le_of_ble_eq_true rfl), (Nat.le_of_ble_eq_true rfl)⟩ hQX htab (Nat.le_of_ble_eq_true rfl) (Nat.le_of_ble_eq_true rfl) ⟨rfl, rfl⟩
set_option maxHeartbeats 4000000 in
theorem cx_X1_signal_3 (l : Launch) (htr : l.stackTraces = false) {G : mG} {ad : Nat → Nat} {n : Nat} {r : Nat → Int32} {f : Nat → UInt32} {dv : Nat → Int32} {M0 : mM} {x : Nat} {v1 v2 v3 : Value} {d h : Nat} {z : Int32} (hd : sAd n ad) (hn : n ≤ 6) (hS : sAt G ad n r f dv M0) (h_x : M0 x = some (eO 0 [.ref (ad 0), v1, v2, v3])) (h1 : d < 4) (h2 : h < 3) (h5 : -40 ≤ z) (h6 : z ≤ nI 40) (hp : r (60 + d) = -1) : mNo l yX1_signal (ws_ yX1_signal cX1_signal 4 (some .float)) (mRm 110 20 200) [.ref x, .int (nI d), .int (nI h), .int z] G M0 "java/lang/IllegalStateException" := by
  refine mMetX.of (by decide +kernel) (Nat.le_of_ble_eq_true rfl) fun p e s m args below meth c A Q M hM0 F hnm hQ hQX htab hM ls hl => ?_
  have hM0 : M0 = M := hM0.symm
  subst hM0
  have hl : lv_has ls 4 [(0, .ref x), (1, .int (nI d)), (2, .int (nI h)), (3, .int z)] := hl
  refine lv_aload_n F.1.1 F.1.2.1 dX1_signal_0 rfl (lv_at hl 0 rfl) ?_
  refine lv_iload_n F.1.1 F.1.2.1 dX1_signal_1 rfl (lv_at hl 1 rfl) ?_
  refine lv_iload_n F.1.1 F.1.2.1 dX1_signal_2 rfl (lv_at hl 2 rfl) ?_
  refine mc_Vv (As := [_, _]) F hM (cs_X1_checkData l hd hn hS h_x h1 h2) (cwV 2 F.1.2.2.2.2 (lw_V q1404 q1406 qs30 q70 q1407) rfl rfl rfl (by decide +kernel) (mRm_ok (by decide) (by decide))) h_x rfl rfl rfl rfl hl.1 rfl (Nat.le_of_ble_eq_true rfl) dX1_signal_3 ⟨Nat.le_of_ble_eq_true rfl, Nat.le_of_ble_eq_true rfl⟩ (fun H locs hM => ?_)
  refine lv_iload_n F.1.1 F.1.2.1 dX1_signal_6 rfl (lv_at hl 3 rfl) ?_
  refine lv_bipush (v := -40) F.1.1 F.1.2.1 dX1_signal_7 (by decide +kernel) ?_
  refine mr_bipush F 40 dX1_signal_9 (by decide +kernel) ?_
  refine mc_Sv (As := [_, _, _]) F hM (cs_X1_checkRange l h5 h6) (va_cwS 3 F.1.2.2.2.2 (lw_S q1240 q1241 q70 q1242) rfl rfl rfl (by decide +kernel) (mRm_ok (by decide) (by decide))) rfl rfl hl.1 rfl (Nat.le_of_ble_eq_true rfl) dX1_signal_11 ⟨Nat.le_of_ble_eq_true rfl, Nat.le_of_ble_eq_true rfl⟩ (fun H locs hM => ?_)
  refine lv_aload_n F.1.1 F.1.2.1 dX1_signal_14 rfl (lv_at hl 0 rfl) ?_
  refine cg0 F hM h_x 0 (by decide) q385 (fun x h => h) rfl dX1_signal_15 ?_
  refine lv_iload_n F.1.1 F.1.2.1 dX1_signal_18 rfl (lv_at hl 1 rfl) ?_
  refine mc_Va (As := [_]) F hM (hS.q2 hd (cs_X2_hasPack l hd hn h1)) (cwV 1 F.1.2.2.2.2 (lw_V q1380 q820 q821 q71 q822) rfl rfl rfl (by decide +kernel) (mRm_ok (by decide) (by decide))) (sq_0 hS) rfl rfl rfl rfl hl.1 rfl (Nat.le_of_ble_eq_true rfl) dX1_signal_19 ⟨Nat.le_of_ble_eq_true rfl, Nat.le_of_ble_eq_true rfl⟩ (fun H locs hM => ?_)
  exact mx_Sn (As := [_]) F hM (cx_X1_checkState l htr (bI_f (fun q : ¬ r (60 + d) = -1 => q hp))) (va_cwS 1 F.1.2.2.2.2 (lw_S q1313 q1314 q70 q1315) rfl rfl rfl (by decide +kernel) (mRm_ok (by decide) (by decide))) rfl hl.1 rfl (Nat.le_of_ble_eq_true rfl) dX1_signal_22 ⟨(Nat.le_of_ble_eq_true rfl), (Nat.le_of_ble_eq_true rfl)⟩ hQX htab (Nat.le_of_ble_eq_true rfl) (Nat.le_of_ble_eq_true rfl) ⟨rfl, rfl⟩
set_option maxHeartbeats 4000000 in
theorem cx_X1_signalBits_1 (l : Launch) (htr : l.stackTraces = false) {G : mG} {ad : Nat → Nat} {n : Nat} {r : Nat → Int32} {f : Nat → UInt32} {dv : Nat → Int32} {M0 : mM} {x : Nat} {v1 v2 v3 : Value} {u w z : Int32} (hd : sAd n ad) (hn : n ≤ 6) (hS : sAt G ad n r f dv M0) (h_x : M0 x = some (eO 0 [.ref (ad 0), v1, v2, v3])) (hno : ¬ (inN u 4 ∧ inN w 3)) : mNo l yX1_signalBits (ws_ yX1_signalBits cX1_signalBits 4 (some .int)) (mRm 110 20 200) [.ref x, .int u, .int w, .int z] G M0 "java/lang/IndexOutOfBoundsException" := by
  refine mMetX.of (by decide +kernel) (Nat.le_of_ble_eq_true rfl) fun p e s m args below meth c A Q M hM0 F hnm hQ hQX htab hM ls hl => ?_
  have hM0 : M0 = M := hM0.symm
  subst hM0
  have hl : lv_has ls 4 [(0, .ref x), (1, .int u), (2, .int w), (3, .int z)] := hl
  refine lv_aload_n F.1.1 F.1.2.1 dX1_signalBits_0 rfl (lv_at hl 0 rfl) ?_
  refine lv_iload_n F.1.1 F.1.2.1 dX1_signalBits_1 rfl (lv_at hl 1 rfl) ?_
  refine lv_iload_n F.1.1 F.1.2.1 dX1_signalBits_2 rfl (lv_at hl 2 rfl) ?_
  exact mx_Vn (As := [_, _]) F hM (cx_X1_checkData l htr hd hn hS h_x hno) (cwV 2 F.1.2.2.2.2 (lw_V q1404 q1406 qs30 q70 q1407) rfl rfl rfl (by decide +kernel) (mRm_ok (by decide) (by decide))) h_x (ci := 0) rfl rfl rfl hl.1 rfl (Nat.le_of_ble_eq_true rfl) dX1_signalBits_3 ⟨(Nat.le_of_ble_eq_true rfl), (Nat.le_of_ble_eq_true rfl)⟩ hQX htab (Nat.le_of_ble_eq_true rfl) (Nat.le_of_ble_eq_true rfl) ⟨rfl, rfl⟩
set_option maxHeartbeats 4000000 in
theorem cx_X1_signalBits_2 (l : Launch) (htr : l.stackTraces = false) {G : mG} {ad : Nat → Nat} {n : Nat} {r : Nat → Int32} {f : Nat → UInt32} {dv : Nat → Int32} {M0 : mM} {x : Nat} {v1 v2 v3 : Value} {d h : Nat} {z : Int32} (hd : sAd n ad) (hn : n ≤ 6) (hS : sAt G ad n r f dv M0) (h_x : M0 x = some (eO 0 [.ref (ad 0), v1, v2, v3])) (h1 : d < 4) (h2 : h < 3) (hno : ¬ (-40 ≤ z ∧ z ≤ nI 40)) : mNo l yX1_signalBits (ws_ yX1_signalBits cX1_signalBits 4 (some .int)) (mRm 110 20 200) [.ref x, .int (nI d), .int (nI h), .int z] G M0 "java/lang/IllegalArgumentException" := by
  refine mMetX.of (by decide +kernel) (Nat.le_of_ble_eq_true rfl) fun p e s m args below meth c A Q M hM0 F hnm hQ hQX htab hM ls hl => ?_
  have hM0 : M0 = M := hM0.symm
  subst hM0
  have hl : lv_has ls 4 [(0, .ref x), (1, .int (nI d)), (2, .int (nI h)), (3, .int z)] := hl
  refine lv_aload_n F.1.1 F.1.2.1 dX1_signalBits_0 rfl (lv_at hl 0 rfl) ?_
  refine lv_iload_n F.1.1 F.1.2.1 dX1_signalBits_1 rfl (lv_at hl 1 rfl) ?_
  refine lv_iload_n F.1.1 F.1.2.1 dX1_signalBits_2 rfl (lv_at hl 2 rfl) ?_
  refine mc_Vv (As := [_, _]) F hM (cs_X1_checkData l hd hn hS h_x h1 h2) (cwV 2 F.1.2.2.2.2 (lw_V q1404 q1406 qs30 q70 q1407) rfl rfl rfl (by decide +kernel) (mRm_ok (by decide) (by decide))) h_x rfl rfl rfl rfl hl.1 rfl (Nat.le_of_ble_eq_true rfl) dX1_signalBits_3 ⟨Nat.le_of_ble_eq_true rfl, Nat.le_of_ble_eq_true rfl⟩ (fun H locs hM => ?_)
  refine lv_iload_n F.1.1 F.1.2.1 dX1_signalBits_6 rfl (lv_at hl 3 rfl) ?_
  refine lv_bipush (v := -40) F.1.1 F.1.2.1 dX1_signalBits_7 (by decide +kernel) ?_
  refine mr_bipush F 40 dX1_signalBits_9 (by decide +kernel) ?_
  exact mx_Sn (As := [_, _, _]) F hM (cx_X1_checkRange l htr hno) (va_cwS 3 F.1.2.2.2.2 (lw_S q1240 q1241 q70 q1242) rfl rfl rfl (by decide +kernel) (mRm_ok (by decide) (by decide))) rfl hl.1 rfl (Nat.le_of_ble_eq_true rfl) dX1_signalBits_11 ⟨(Nat.le_of_ble_eq_true rfl), (Nat.le_of_ble_eq_true rfl)⟩ hQX htab (Nat.le_of_ble_eq_true rfl) (Nat.le_of_ble_eq_true rfl) ⟨rfl, rfl⟩
set_option maxHeartbeats 4000000 in
theorem cx_X1_signalBits_3 (l : Launch) (htr : l.stackTraces = false) {G : mG} {ad : Nat → Nat} {n : Nat} {r : Nat → Int32} {f : Nat → UInt32} {dv : Nat → Int32} {M0 : mM} {x : Nat} {v1 v2 v3 : Value} {d h : Nat} {z : Int32} (hd : sAd n ad) (hn : n ≤ 6) (hS : sAt G ad n r f dv M0) (h_x : M0 x = some (eO 0 [.ref (ad 0), v1, v2, v3])) (h1 : d < 4) (h2 : h < 3) (h5 : -40 ≤ z) (h6 : z ≤ nI 40) (hp : r (60 + d) = -1) : mNo l yX1_signalBits (ws_ yX1_signalBits cX1_signalBits 4 (some .int)) (mRm 110 20 200) [.ref x, .int (nI d), .int (nI h), .int z] G M0 "java/lang/IllegalStateException" := by
  refine mMetX.of (by decide +kernel) (Nat.le_of_ble_eq_true rfl) fun p e s m args below meth c A Q M hM0 F hnm hQ hQX htab hM ls hl => ?_
  have hM0 : M0 = M := hM0.symm
  subst hM0
  have hl : lv_has ls 4 [(0, .ref x), (1, .int (nI d)), (2, .int (nI h)), (3, .int z)] := hl
  refine lv_aload_n F.1.1 F.1.2.1 dX1_signalBits_0 rfl (lv_at hl 0 rfl) ?_
  refine lv_iload_n F.1.1 F.1.2.1 dX1_signalBits_1 rfl (lv_at hl 1 rfl) ?_
  refine lv_iload_n F.1.1 F.1.2.1 dX1_signalBits_2 rfl (lv_at hl 2 rfl) ?_
  refine mc_Vv (As := [_, _]) F hM (cs_X1_checkData l hd hn hS h_x h1 h2) (cwV 2 F.1.2.2.2.2 (lw_V q1404 q1406 qs30 q70 q1407) rfl rfl rfl (by decide +kernel) (mRm_ok (by decide) (by decide))) h_x rfl rfl rfl rfl hl.1 rfl (Nat.le_of_ble_eq_true rfl) dX1_signalBits_3 ⟨Nat.le_of_ble_eq_true rfl, Nat.le_of_ble_eq_true rfl⟩ (fun H locs hM => ?_)
  refine lv_iload_n F.1.1 F.1.2.1 dX1_signalBits_6 rfl (lv_at hl 3 rfl) ?_
  refine lv_bipush (v := -40) F.1.1 F.1.2.1 dX1_signalBits_7 (by decide +kernel) ?_
  refine mr_bipush F 40 dX1_signalBits_9 (by decide +kernel) ?_
  refine mc_Sv (As := [_, _, _]) F hM (cs_X1_checkRange l h5 h6) (va_cwS 3 F.1.2.2.2.2 (lw_S q1240 q1241 q70 q1242) rfl rfl rfl (by decide +kernel) (mRm_ok (by decide) (by decide))) rfl rfl hl.1 rfl (Nat.le_of_ble_eq_true rfl) dX1_signalBits_11 ⟨Nat.le_of_ble_eq_true rfl, Nat.le_of_ble_eq_true rfl⟩ (fun H locs hM => ?_)
  refine lv_aload_n F.1.1 F.1.2.1 dX1_signalBits_14 rfl (lv_at hl 0 rfl) ?_
  refine cg0 F hM h_x 0 (by decide) q385 (fun x h => h) rfl dX1_signalBits_15 ?_
  refine lv_iload_n F.1.1 F.1.2.1 dX1_signalBits_18 rfl (lv_at hl 1 rfl) ?_
  refine mc_Va (As := [_]) F hM (hS.q2 hd (cs_X2_hasPack l hd hn h1)) (cwV 1 F.1.2.2.2.2 (lw_V q1380 q820 q821 q71 q822) rfl rfl rfl (by decide +kernel) (mRm_ok (by decide) (by decide))) (sq_0 hS) rfl rfl rfl rfl hl.1 rfl (Nat.le_of_ble_eq_true rfl) dX1_signalBits_19 ⟨Nat.le_of_ble_eq_true rfl, Nat.le_of_ble_eq_true rfl⟩ (fun H locs hM => ?_)
  exact mx_Sn (As := [_]) F hM (cx_X1_checkState l htr (bI_f (fun q : ¬ r (60 + d) = -1 => q hp))) (va_cwS 1 F.1.2.2.2.2 (lw_S q1313 q1314 q70 q1315) rfl rfl rfl (by decide +kernel) (mRm_ok (by decide) (by decide))) rfl hl.1 rfl (Nat.le_of_ble_eq_true rfl) dX1_signalBits_22 ⟨(Nat.le_of_ble_eq_true rfl), (Nat.le_of_ble_eq_true rfl)⟩ hQX htab (Nat.le_of_ble_eq_true rfl) (Nat.le_of_ble_eq_true rfl) ⟨rfl, rfl⟩
set_option maxHeartbeats 4000000 in
theorem cs_X1_gap (l : Launch) {G : mG} {ad : Nat → Nat} {n : Nat} {r : Nat → Int32} {f : Nat → UInt32} {dv : Nat → Int32} {M0 : mM} {x : Nat} {v1 v2 v3 : Value} {d h k q0 : Nat} (hd : sAd n ad) (hn : n ≤ 6) (hS : sAt G ad n r f dv M0) (h_x : M0 x = some (eO 0 [.ref (ad 0), v1, v2, v3])) (h1 : d < 4) (h2 : h < 3) (hp : r (60 + d) = nI k) (h3 : k < n) (hc : r (52 + d) = nI q0) (h4 : q0 < 40) (hv : ¬ r (126 + (40 * (3 * k + h) + q0)) = -1) : mMet l yX1_gap (ws_ yX1_gap cX1_gap 5 (some .int)) (mRm 11 1 3) [.ref x, .int (nI d), .int (nI h)] G (pPre M0) (pPost M0 (some (.int (r (846 + (40 * (3 * k + h) + q0)) - mPl r d h k q0)))) := by
  refine mMet.of (by decide +kernel) (Nat.le_of_ble_eq_true rfl) fun p e s m args below meth c A Q M hM0 F hnm hQ hM ls hl => ?_
  have hM0 : M0 = M := hM0.symm
  subst hM0
  have hl : lv_has ls 5 [(0, .ref x), (1, .int (nI d)), (2, .int (nI h))] := hl
  refine lv_aload_n F.1.1 F.1.2.1 dX1_gap_0 rfl (lv_at hl 0 rfl) ?_
  refine lv_iload_n F.1.1 F.1.2.1 dX1_gap_1 rfl (lv_at hl 1 rfl) ?_
  refine lv_iload_n F.1.1 F.1.2.1 dX1_gap_2 rfl (lv_at hl 2 rfl) ?_
  refine mc_Vv (As := [_, _]) F hM (cs_X1_checkReady l hd hn hS h_x h1 h2 hp h3) (cwV 2 F.1.2.2.2.2 (lw_V q1422 q1424 qs31 q70 q1425) rfl rfl rfl (by decide +kernel) (mRm_ok (by decide) (by decide))) h_x rfl rfl rfl rfl hl.1 rfl (Nat.le_of_ble_eq_true rfl) dX1_gap_3 ⟨Nat.le_of_ble_eq_true rfl, Nat.le_of_ble_eq_true rfl⟩ (fun H locs hM => ?_)
  refine lv_aload_n F.1.1 F.1.2.1 dX1_gap_6 rfl (lv_at hl 0 rfl) ?_
  refine cg0 F hM h_x 0 (by decide) q385 (fun x h => h) rfl dX1_gap_7 ?_
  refine lv_iload_n F.1.1 F.1.2.1 dX1_gap_10 rfl (lv_at hl 1 rfl) ?_
  refine lv_iload_n F.1.1 F.1.2.1 dX1_gap_11 rfl (lv_at hl 2 rfl) ?_
  refine mc_Va (As := [_, _]) F hM (hS.q2 hd (cs_X2_surface l hd hn hp h1 h2 h3)) (cwV 2 F.1.2.2.2.2 (lw_V q1414 q894 q895 q71 q896) rfl rfl rfl (by decide +kernel) (mRm_ok (by decide) (by decide))) (sq_0 hS) rfl rfl rfl rfl hl.1 rfl (Nat.le_of_ble_eq_true rfl) dX1_gap_12 ⟨Nat.le_of_ble_eq_true rfl, Nat.le_of_ble_eq_true rfl⟩ (fun H locs hM => ?_)
  refine lv_astore_n (lv' := [(3, _), (0, _), (1, _), (2, _)]) F.1.1 F.1.2.1 dX1_gap_15 rfl hl (by decide) rfl (fun ls hl => ?_)
  refine lv_aload_n F.1.1 F.1.2.1 dX1_gap_16 rfl (lv_at hl 1 rfl) ?_
  refine lv_iload_n F.1.1 F.1.2.1 dX1_gap_17 rfl (lv_at hl 2 rfl) ?_
  refine mc_Va (As := [_]) F hM (cs_X1_drive l hd hn hS h_x h1) (cwV 1 F.1.2.2.2.2 (lw_V q1211 q1213 qs23 q70 q1214) rfl rfl rfl (by decide +kernel) (mRm_ok (by decide) (by decide))) h_x rfl rfl rfl rfl hl.1 rfl (Nat.le_of_ble_eq_true rfl) dX1_gap_18 ⟨Nat.le_of_ble_eq_true rfl, Nat.le_of_ble_eq_true rfl⟩ (fun H locs hM => ?_)
  refine cg2 F hM (sq_D hS (by omega)) 4 (by decide) q284 (fun x h => h) (congrArg (fun z => some (Value.int z)) hc) dX1_gap_21 ?_
  refine lv_istore (lv' := [(4, _), (3, _), (0, _), (1, _), (2, _)]) F.1.1 F.1.2.1 dX1_gap_24 hl (by decide) rfl (fun ls hl => ?_)
  refine lv_aload_n F.1.1 F.1.2.1 dX1_gap_26 rfl (lv_at hl 1 rfl) ?_
  refine lv_iload F.1.1 F.1.2.1 dX1_gap_27 (lv_at hl 0 rfl) ?_
  refine mc_Va (As := [_]) F hM (hS.q2 hd (cs_X9_isEmpty l hd hn (by omega) (by omega))) (cwV 1 F.1.2.2.2.2 (lw_V q1555 q914 q915 q95 q916) rfl rfl rfl (by decide +kernel) (mRm_ok (by decide) (by decide))) (sq_S hS hn (by omega)) rfl rfl rfl rfl hl.1 rfl (Nat.le_of_ble_eq_true rfl) dX1_gap_29 ⟨Nat.le_of_ble_eq_true rfl, Nat.le_of_ble_eq_true rfl⟩ (fun H locs hM => ?_)
  refine lv_if_ne (tgt := 39) F.1.1 F.1.2.1 dX1_gap_32 (by decide) (fun c32 => ?_) (fun c32 => ?_)
  · exact absurd (bI_f hv) c32
  · refine mr_iconst F 1 dX1_gap_35 (by decide +kernel) ?_
    refine lv_goto (tgt := 40) F.1.1 F.1.2.1 dX1_gap_36 (by decide) ?_
    refine mc_Sv (As := [_]) F hM (cs_X1_checkState l (by decide)) (va_cwS 1 F.1.2.2.2.2 (lw_S q1313 q1314 q70 q1315) rfl rfl rfl (by decide +kernel) (mRm_ok (by decide) (by decide))) rfl rfl hl.1 rfl (Nat.le_of_ble_eq_true rfl) dX1_gap_40 ⟨Nat.le_of_ble_eq_true rfl, Nat.le_of_ble_eq_true rfl⟩ (fun H locs hM => ?_)
    refine lv_aload_n F.1.1 F.1.2.1 dX1_gap_43 rfl (lv_at hl 1 rfl) ?_
    refine cg7 F hM (sq_S hS hn (by omega)) 1 (by decide) q1107 (fun x h => h) rfl dX1_gap_44 ?_
    refine lv_iload F.1.1 F.1.2.1 dX1_gap_47 (lv_at hl 0 rfl) ?_
    refine mr_ialdS F hM (j0 := 846 + (40 * (3 * k + h) + q0)) (sq_O hS hn (by omega)) (by omega) (by omega) (by omega) dX1_gap_49 ?_
    refine lv_aload_n F.1.1 F.1.2.1 dX1_gap_50 rfl (lv_at hl 2 rfl) ?_
    refine cg0 F hM h_x 0 (by decide) q385 (fun x h => h) rfl dX1_gap_51 ?_
    refine lv_iload_n F.1.1 F.1.2.1 dX1_gap_54 rfl (lv_at hl 3 rfl) ?_
    refine lv_iload_n F.1.1 F.1.2.1 dX1_gap_55 rfl (lv_at hl 4 rfl) ?_
    refine mc_Va (As := [_, _]) F hM (hS.q2 hd (cs_X2_place l hd hn hp hc h1 h2 h3 h4)) (cwV 2 F.1.2.2.2.2 (lw_V q1511 q898 q899 q71 q900) rfl rfl rfl (by decide +kernel) (mRm_ok (by decide) (by decide))) (sq_0 hS) rfl rfl rfl rfl hl.1 rfl (Nat.le_of_ble_eq_true rfl) dX1_gap_56 ⟨Nat.le_of_ble_eq_true rfl, Nat.le_of_ble_eq_true rfl⟩ (fun H locs hM => ?_)
    refine lv_isub F.1.1 F.1.2.1 dX1_gap_59 ?_
    exact mr_iret F hQ hM ⟨rfl, rfl⟩ (Nat.le_of_ble_eq_true rfl) (Nat.le_of_ble_eq_true rfl) dX1_gap_60
set_option maxHeartbeats 4000000 in
theorem cx_X1_gap_1 (l : Launch) (htr : l.stackTraces = false) {G : mG} {ad : Nat → Nat} {n : Nat} {r : Nat → Int32} {f : Nat → UInt32} {dv : Nat → Int32} {M0 : mM} {x : Nat} {v1 v2 v3 : Value} {u w : Int32} (hd : sAd n ad) (hn : n ≤ 6) (hS : sAt G ad n r f dv M0) (h_x : M0 x = some (eO 0 [.ref (ad 0), v1, v2, v3])) (hno : ¬ (inN u 4 ∧ inN w 3)) : mNo l yX1_gap (ws_ yX1_gap cX1_gap 5 (some .int)) (mRm 111 20 200) [.ref x, .int u, .int w] G M0 "java/lang/IndexOutOfBoundsException" := by
  refine mMetX.of (by decide +kernel) (Nat.le_of_ble_eq_true rfl) fun p e s m args below meth c A Q M hM0 F hnm hQ hQX htab hM ls hl => ?_
  have hM0 : M0 = M := hM0.symm
  subst hM0
  have hl : lv_has ls 5 [(0, .ref x), (1, .int u), (2, .int w)] := hl
  refine lv_aload_n F.1.1 F.1.2.1 dX1_gap_0 rfl (lv_at hl 0 rfl) ?_
  refine lv_iload_n F.1.1 F.1.2.1 dX1_gap_1 rfl (lv_at hl 1 rfl) ?_
  refine lv_iload_n F.1.1 F.1.2.1 dX1_gap_2 rfl (lv_at hl 2 rfl) ?_
  exact mx_Vn (As := [_, _]) F hM (cx_X1_checkReady_1 l htr hd hn hS h_x hno) (cwV 2 F.1.2.2.2.2 (lw_V q1422 q1424 qs31 q70 q1425) rfl rfl rfl (by decide +kernel) (mRm_ok (by decide) (by decide))) h_x (ci := 0) rfl rfl rfl hl.1 rfl (Nat.le_of_ble_eq_true rfl) dX1_gap_3 ⟨(Nat.le_of_ble_eq_true rfl), (Nat.le_of_ble_eq_true rfl)⟩ hQX htab (Nat.le_of_ble_eq_true rfl) (Nat.le_of_ble_eq_true rfl) ⟨rfl, rfl⟩
set_option maxHeartbeats 4000000 in
theorem cx_X1_gap_2 (l : Launch) (htr : l.stackTraces = false) {G : mG} {ad : Nat → Nat} {n : Nat} {r : Nat → Int32} {f : Nat → UInt32} {dv : Nat → Int32} {M0 : mM} {x : Nat} {v1 v2 v3 : Value} {d h : Nat} (hd : sAd n ad) (hn : n ≤ 6) (hS : sAt G ad n r f dv M0) (h_x : M0 x = some (eO 0 [.ref (ad 0), v1, v2, v3])) (h1 : d < 4) (h2 : h < 3) (hp : r (60 + d) = -1) : mNo l yX1_gap (ws_ yX1_gap cX1_gap 5 (some .int)) (mRm 111 20 200) [.ref x, .int (nI d), .int (nI h)] G M0 "java/lang/IllegalStateException" := by
  refine mMetX.of (by decide +kernel) (Nat.le_of_ble_eq_true rfl) fun p e s m args below meth c A Q M hM0 F hnm hQ hQX htab hM ls hl => ?_
  have hM0 : M0 = M := hM0.symm
  subst hM0
  have hl : lv_has ls 5 [(0, .ref x), (1, .int (nI d)), (2, .int (nI h))] := hl
  refine lv_aload_n F.1.1 F.1.2.1 dX1_gap_0 rfl (lv_at hl 0 rfl) ?_
  refine lv_iload_n F.1.1 F.1.2.1 dX1_gap_1 rfl (lv_at hl 1 rfl) ?_
  refine lv_iload_n F.1.1 F.1.2.1 dX1_gap_2 rfl (lv_at hl 2 rfl) ?_
  exact mx_Vn (As := [_, _]) F hM (cx_X1_checkReady_2 l htr hd hn hS h_x h1 h2 hp) (cwV 2 F.1.2.2.2.2 (lw_V q1422 q1424 qs31 q70 q1425) rfl rfl rfl (by decide +kernel) (mRm_ok (by decide) (by decide))) h_x (ci := 0) rfl rfl rfl hl.1 rfl (Nat.le_of_ble_eq_true rfl) dX1_gap_3 ⟨(Nat.le_of_ble_eq_true rfl), (Nat.le_of_ble_eq_true rfl)⟩ hQX htab (Nat.le_of_ble_eq_true rfl) (Nat.le_of_ble_eq_true rfl) ⟨rfl, rfl⟩
set_option maxHeartbeats 4000000 in
theorem cx_X1_gap_3 (l : Launch) (htr : l.stackTraces = false) {G : mG} {ad : Nat → Nat} {n : Nat} {r : Nat → Int32} {f : Nat → UInt32} {dv : Nat → Int32} {M0 : mM} {x : Nat} {v1 v2 v3 : Value} {d h k q0 : Nat} (hd : sAd n ad) (hn : n ≤ 6) (hS : sAt G ad n r f dv M0) (h_x : M0 x = some (eO 0 [.ref (ad 0), v1, v2, v3])) (h1 : d < 4) (h2 : h < 3) (hp : r (60 + d) = nI k) (h3 : k < n) (hc : r (52 + d) = nI q0) (h4 : q0 < 40) (hv : r (126 + (40 * (3 * k + h) + q0)) = -1) : mNo l yX1_gap (ws_ yX1_gap cX1_gap 5 (some .int)) (mRm 111 20 200) [.ref x, .int (nI d), .int (nI h)] G M0 "java/lang/IllegalStateException" := by
  refine mMetX.of (by decide +kernel) (Nat.le_of_ble_eq_true rfl) fun p e s m args below meth c A Q M hM0 F hnm hQ hQX htab hM ls hl => ?_
  have hM0 : M0 = M := hM0.symm
  subst hM0
  have hl : lv_has ls 5 [(0, .ref x), (1, .int (nI d)), (2, .int (nI h))] := hl
  refine lv_aload_n F.1.1 F.1.2.1 dX1_gap_0 rfl (lv_at hl 0 rfl) ?_
  refine lv_iload_n F.1.1 F.1.2.1 dX1_gap_1 rfl (lv_at hl 1 rfl) ?_
  refine lv_iload_n F.1.1 F.1.2.1 dX1_gap_2 rfl (lv_at hl 2 rfl) ?_
  refine mc_Vv (As := [_, _]) F hM (cs_X1_checkReady l hd hn hS h_x h1 h2 hp h3) (cwV 2 F.1.2.2.2.2 (lw_V q1422 q1424 qs31 q70 q1425) rfl rfl rfl (by decide +kernel) (mRm_ok (by decide) (by decide))) h_x rfl rfl rfl rfl hl.1 rfl (Nat.le_of_ble_eq_true rfl) dX1_gap_3 ⟨Nat.le_of_ble_eq_true rfl, Nat.le_of_ble_eq_true rfl⟩ (fun H locs hM => ?_)
  refine lv_aload_n F.1.1 F.1.2.1 dX1_gap_6 rfl (lv_at hl 0 rfl) ?_
  refine cg0 F hM h_x 0 (by decide) q385 (fun x h => h) rfl dX1_gap_7 ?_
  refine lv_iload_n F.1.1 F.1.2.1 dX1_gap_10 rfl (lv_at hl 1 rfl) ?_
  refine lv_iload_n F.1.1 F.1.2.1 dX1_gap_11 rfl (lv_at hl 2 rfl) ?_
  refine mc_Va (As := [_, _]) F hM (hS.q2 hd (cs_X2_surface l hd hn hp h1 h2 h3)) (cwV 2 F.1.2.2.2.2 (lw_V q1414 q894 q895 q71 q896) rfl rfl rfl (by decide +kernel) (mRm_ok (by decide) (by decide))) (sq_0 hS) rfl rfl rfl rfl hl.1 rfl (Nat.le_of_ble_eq_true rfl) dX1_gap_12 ⟨Nat.le_of_ble_eq_true rfl, Nat.le_of_ble_eq_true rfl⟩ (fun H locs hM => ?_)
  refine lv_astore_n (lv' := [(3, _), (0, _), (1, _), (2, _)]) F.1.1 F.1.2.1 dX1_gap_15 rfl hl (by decide) rfl (fun ls hl => ?_)
  refine lv_aload_n F.1.1 F.1.2.1 dX1_gap_16 rfl (lv_at hl 1 rfl) ?_
  refine lv_iload_n F.1.1 F.1.2.1 dX1_gap_17 rfl (lv_at hl 2 rfl) ?_
  refine mc_Va (As := [_]) F hM (cs_X1_drive l hd hn hS h_x h1) (cwV 1 F.1.2.2.2.2 (lw_V q1211 q1213 qs23 q70 q1214) rfl rfl rfl (by decide +kernel) (mRm_ok (by decide) (by decide))) h_x rfl rfl rfl rfl hl.1 rfl (Nat.le_of_ble_eq_true rfl) dX1_gap_18 ⟨Nat.le_of_ble_eq_true rfl, Nat.le_of_ble_eq_true rfl⟩ (fun H locs hM => ?_)
  refine cg2 F hM (sq_D hS (by omega)) 4 (by decide) q284 (fun x h => h) (congrArg (fun z => some (Value.int z)) hc) dX1_gap_21 ?_
  refine lv_istore (lv' := [(4, _), (3, _), (0, _), (1, _), (2, _)]) F.1.1 F.1.2.1 dX1_gap_24 hl (by decide) rfl (fun ls hl => ?_)
  refine lv_aload_n F.1.1 F.1.2.1 dX1_gap_26 rfl (lv_at hl 1 rfl) ?_
  refine lv_iload F.1.1 F.1.2.1 dX1_gap_27 (lv_at hl 0 rfl) ?_
  refine mc_Va (As := [_]) F hM (hS.q2 hd (cs_X9_isEmpty l hd hn (by omega) (by omega))) (cwV 1 F.1.2.2.2.2 (lw_V q1555 q914 q915 q95 q916) rfl rfl rfl (by decide +kernel) (mRm_ok (by decide) (by decide))) (sq_S hS hn (by omega)) rfl rfl rfl rfl hl.1 rfl (Nat.le_of_ble_eq_true rfl) dX1_gap_29 ⟨Nat.le_of_ble_eq_true rfl, Nat.le_of_ble_eq_true rfl⟩ (fun H locs hM => ?_)
  refine lv_if_ne (tgt := 39) F.1.1 F.1.2.1 dX1_gap_32 (by decide) (fun c32 => ?_) (fun c32 => ?_)
  · refine mr_iconst F 0 dX1_gap_39 (by decide +kernel) ?_
    exact mx_Sn (As := [_]) F hM (cx_X1_checkState l htr rfl) (va_cwS 1 F.1.2.2.2.2 (lw_S q1313 q1314 q70 q1315) rfl rfl rfl (by decide +kernel) (mRm_ok (by decide) (by decide))) rfl hl.1 rfl (Nat.le_of_ble_eq_true rfl) dX1_gap_40 ⟨(Nat.le_of_ble_eq_true rfl), (Nat.le_of_ble_eq_true rfl)⟩ hQX htab (Nat.le_of_ble_eq_true rfl) (Nat.le_of_ble_eq_true rfl) ⟨rfl, rfl⟩
  · exact absurd c32 (by rw [bI_t hv]; decide)
set_option maxHeartbeats 4000000 in
theorem cs_X1_retriesByTrying (l : Launch) {G : mG} {ad : Nat → Nat} {n : Nat} {r : Nat → Int32} {f : Nat → UInt32} {dv : Nat → Int32} {M0 : mM} {x : Nat} {v1 v2 v3 : Value} {d h k q0 t : Nat} (hd : sAd n ad) (hn : n ≤ 6) (hS : sAt G ad n r f dv M0) (h_x : M0 x = some (eO 0 [.ref (ad 0), v1, v2, v3])) (h1 : d < 4) (h2 : h < 3) (hp : r (60 + d) = nI k) (h3 : k < n) (hc : r (52 + d) = nI q0) (h4 : q0 < 40) (hI : mInv r f) (ht : r 88 = nI t) (ht8 : t ≤ 8) : mMet l yX1_retriesByTrying (ws_ yX1_retriesByTrying cX1_retriesByTrying 3 (some .int)) (mRm 11 1 3) [.ref x, .int (nI d), .int (nI h)] G (pPre M0) (pPost M0 (some (.int (mRt r f d h k q0 t)))) := by
  refine mMet.of (by decide +kernel) (Nat.le_of_ble_eq_true rfl) fun p e s m args below meth c A Q M hM0 F hnm hQ hM ls hl => ?_
  have hM0 : M0 = M := hM0.symm
  subst hM0
  have hl : lv_has ls 3 [(0, .ref x), (1, .int (nI d)), (2, .int (nI h))] := hl
  refine lv_aload_n F.1.1 F.1.2.1 dX1_retriesByTrying_0 rfl (lv_at hl 0 rfl) ?_
  refine lv_iload_n F.1.1 F.1.2.1 dX1_retriesByTrying_1 rfl (lv_at hl 1 rfl) ?_
  refine lv_iload_n F.1.1 F.1.2.1 dX1_retriesByTrying_2 rfl (lv_at hl 2 rfl) ?_
  refine mc_Vv (As := [_, _]) F hM (cs_X1_checkReady l hd hn hS h_x h1 h2 hp h3) (cwV 2 F.1.2.2.2.2 (lw_V q1422 q1424 qs31 q70 q1425) rfl rfl rfl (by decide +kernel) (mRm_ok (by decide) (by decide))) h_x rfl rfl rfl rfl hl.1 rfl (Nat.le_of_ble_eq_true rfl) dX1_retriesByTrying_3 ⟨Nat.le_of_ble_eq_true rfl, Nat.le_of_ble_eq_true rfl⟩ (fun H locs hM => ?_)
  refine lv_aload_n F.1.1 F.1.2.1 dX1_retriesByTrying_6 rfl (lv_at hl 0 rfl) ?_
  refine cg0 F hM h_x 0 (by decide) q385 (fun x h => h) rfl dX1_retriesByTrying_7 ?_
  refine lv_iload_n F.1.1 F.1.2.1 dX1_retriesByTrying_10 rfl (lv_at hl 1 rfl) ?_
  refine lv_iload_n F.1.1 F.1.2.1 dX1_retriesByTrying_11 rfl (lv_at hl 2 rfl) ?_
  refine mc_Va (As := [_, _]) F hM (hS.q2 hd (cs_X2_retries l hd hn hI hp hc ht ht8 h1 h2 h3 h4)) (cwV 2 F.1.2.2.2.2 (lw_V q1612 q947 q948 q71 q949) rfl rfl rfl (by decide +kernel) (mRm_ok (by decide) (by decide))) (sq_0 hS) rfl rfl rfl rfl hl.1 rfl (Nat.le_of_ble_eq_true rfl) dX1_retriesByTrying_12 ⟨Nat.le_of_ble_eq_true rfl, Nat.le_of_ble_eq_true rfl⟩ (fun H locs hM => ?_)
  exact mr_iret F hQ hM ⟨rfl, rfl⟩ (Nat.le_of_ble_eq_true rfl) (Nat.le_of_ble_eq_true rfl) dX1_retriesByTrying_15
set_option maxHeartbeats 4000000 in
theorem cx_X1_retriesByTrying_1 (l : Launch) (htr : l.stackTraces = false) {G : mG} {ad : Nat → Nat} {n : Nat} {r : Nat → Int32} {f : Nat → UInt32} {dv : Nat → Int32} {M0 : mM} {x : Nat} {v1 v2 v3 : Value} {u w : Int32} (hd : sAd n ad) (hn : n ≤ 6) (hS : sAt G ad n r f dv M0) (h_x : M0 x = some (eO 0 [.ref (ad 0), v1, v2, v3])) (hno : ¬ (inN u 4 ∧ inN w 3)) : mNo l yX1_retriesByTrying (ws_ yX1_retriesByTrying cX1_retriesByTrying 3 (some .int)) (mRm 111 20 200) [.ref x, .int u, .int w] G M0 "java/lang/IndexOutOfBoundsException" := by
  refine mMetX.of (by decide +kernel) (Nat.le_of_ble_eq_true rfl) fun p e s m args below meth c A Q M hM0 F hnm hQ hQX htab hM ls hl => ?_
  have hM0 : M0 = M := hM0.symm
  subst hM0
  have hl : lv_has ls 3 [(0, .ref x), (1, .int u), (2, .int w)] := hl
  refine lv_aload_n F.1.1 F.1.2.1 dX1_retriesByTrying_0 rfl (lv_at hl 0 rfl) ?_
  refine lv_iload_n F.1.1 F.1.2.1 dX1_retriesByTrying_1 rfl (lv_at hl 1 rfl) ?_
  refine lv_iload_n F.1.1 F.1.2.1 dX1_retriesByTrying_2 rfl (lv_at hl 2 rfl) ?_
  exact mx_Vn (As := [_, _]) F hM (cx_X1_checkReady_1 l htr hd hn hS h_x hno) (cwV 2 F.1.2.2.2.2 (lw_V q1422 q1424 qs31 q70 q1425) rfl rfl rfl (by decide +kernel) (mRm_ok (by decide) (by decide))) h_x (ci := 0) rfl rfl rfl hl.1 rfl (Nat.le_of_ble_eq_true rfl) dX1_retriesByTrying_3 ⟨(Nat.le_of_ble_eq_true rfl), (Nat.le_of_ble_eq_true rfl)⟩ hQX htab (Nat.le_of_ble_eq_true rfl) (Nat.le_of_ble_eq_true rfl) ⟨rfl, rfl⟩
set_option maxHeartbeats 4000000 in
theorem cx_X1_retriesByTrying_2 (l : Launch) (htr : l.stackTraces = false) {G : mG} {ad : Nat → Nat} {n : Nat} {r : Nat → Int32} {f : Nat → UInt32} {dv : Nat → Int32} {M0 : mM} {x : Nat} {v1 v2 v3 : Value} {d h : Nat} (hd : sAd n ad) (hn : n ≤ 6) (hS : sAt G ad n r f dv M0) (h_x : M0 x = some (eO 0 [.ref (ad 0), v1, v2, v3])) (h1 : d < 4) (h2 : h < 3) (hp : r (60 + d) = -1) : mNo l yX1_retriesByTrying (ws_ yX1_retriesByTrying cX1_retriesByTrying 3 (some .int)) (mRm 111 20 200) [.ref x, .int (nI d), .int (nI h)] G M0 "java/lang/IllegalStateException" := by
  refine mMetX.of (by decide +kernel) (Nat.le_of_ble_eq_true rfl) fun p e s m args below meth c A Q M hM0 F hnm hQ hQX htab hM ls hl => ?_
  have hM0 : M0 = M := hM0.symm
  subst hM0
  have hl : lv_has ls 3 [(0, .ref x), (1, .int (nI d)), (2, .int (nI h))] := hl
  refine lv_aload_n F.1.1 F.1.2.1 dX1_retriesByTrying_0 rfl (lv_at hl 0 rfl) ?_
  refine lv_iload_n F.1.1 F.1.2.1 dX1_retriesByTrying_1 rfl (lv_at hl 1 rfl) ?_
  refine lv_iload_n F.1.1 F.1.2.1 dX1_retriesByTrying_2 rfl (lv_at hl 2 rfl) ?_
  exact mx_Vn (As := [_, _]) F hM (cx_X1_checkReady_2 l htr hd hn hS h_x h1 h2 hp) (cwV 2 F.1.2.2.2.2 (lw_V q1422 q1424 qs31 q70 q1425) rfl rfl rfl (by decide +kernel) (mRm_ok (by decide) (by decide))) h_x (ci := 0) rfl rfl rfl hl.1 rfl (Nat.le_of_ble_eq_true rfl) dX1_retriesByTrying_3 ⟨(Nat.le_of_ble_eq_true rfl), (Nat.le_of_ble_eq_true rfl)⟩ hQX htab (Nat.le_of_ble_eq_true rfl) (Nat.le_of_ble_eq_true rfl) ⟨rfl, rfl⟩
set_option maxHeartbeats 4000000 in
theorem cs_X1_retriesByGap (l : Launch) {G : mG} {ad : Nat → Nat} {n : Nat} {r : Nat → Int32} {f : Nat → UInt32} {dv : Nat → Int32} {M0 : mM} {x : Nat} {v1 v2 v3 : Value} {d h k q0 t : Nat} (hd : sAd n ad) (hn : n ≤ 6) (hS : sAt G ad n r f dv M0) (h_x : M0 x = some (eO 0 [.ref (ad 0), v1, v2, v3])) (h1 : d < 4) (h2 : h < 3) (hp : r (60 + d) = nI k) (h3 : k < n) (hc : r (52 + d) = nI q0) (h4 : q0 < 40) (hI : mInv r f) (ht : r 88 = nI t) (ht8 : t ≤ 8) : mMet l yX1_retriesByGap (ws_ yX1_retriesByGap cX1_retriesByGap 3 (some .int)) (mRm 11 1 3) [.ref x, .int (nI d), .int (nI h)] G (pPre M0) (pPost M0 (some (.int (mRt r f d h k q0 t)))) := by
  refine mMet.of (by decide +kernel) (Nat.le_of_ble_eq_true rfl) fun p e s m args below meth c A Q M hM0 F hnm hQ hM ls hl => ?_
  have hM0 : M0 = M := hM0.symm
  subst hM0
  have hl : lv_has ls 3 [(0, .ref x), (1, .int (nI d)), (2, .int (nI h))] := hl
  refine lv_aload_n F.1.1 F.1.2.1 dX1_retriesByGap_0 rfl (lv_at hl 0 rfl) ?_
  refine lv_iload_n F.1.1 F.1.2.1 dX1_retriesByGap_1 rfl (lv_at hl 1 rfl) ?_
  refine lv_iload_n F.1.1 F.1.2.1 dX1_retriesByGap_2 rfl (lv_at hl 2 rfl) ?_
  refine mc_Vv (As := [_, _]) F hM (cs_X1_checkReady l hd hn hS h_x h1 h2 hp h3) (cwV 2 F.1.2.2.2.2 (lw_V q1422 q1424 qs31 q70 q1425) rfl rfl rfl (by decide +kernel) (mRm_ok (by decide) (by decide))) h_x rfl rfl rfl rfl hl.1 rfl (Nat.le_of_ble_eq_true rfl) dX1_retriesByGap_3 ⟨Nat.le_of_ble_eq_true rfl, Nat.le_of_ble_eq_true rfl⟩ (fun H locs hM => ?_)
  refine lv_aload_n F.1.1 F.1.2.1 dX1_retriesByGap_6 rfl (lv_at hl 0 rfl) ?_
  refine cg0 F hM h_x 0 (by decide) q385 (fun x h => h) rfl dX1_retriesByGap_7 ?_
  refine lv_iload_n F.1.1 F.1.2.1 dX1_retriesByGap_10 rfl (lv_at hl 1 rfl) ?_
  refine lv_iload_n F.1.1 F.1.2.1 dX1_retriesByGap_11 rfl (lv_at hl 2 rfl) ?_
  refine mc_Va (As := [_, _]) F hM (hS.q2 hd (cs_X2_retriesByGap l hd hn hI hp hc ht ht8 h1 h2 h3 h4)) (cwV 2 F.1.2.2.2.2 (lw_V q1620 q1621 q1622 q71 q1623) rfl rfl rfl (by decide +kernel) (mRm_ok (by decide) (by decide))) (sq_0 hS) rfl rfl rfl rfl hl.1 rfl (Nat.le_of_ble_eq_true rfl) dX1_retriesByGap_12 ⟨Nat.le_of_ble_eq_true rfl, Nat.le_of_ble_eq_true rfl⟩ (fun H locs hM => ?_)
  exact mr_iret F hQ hM ⟨rfl, rfl⟩ (Nat.le_of_ble_eq_true rfl) (Nat.le_of_ble_eq_true rfl) dX1_retriesByGap_15
set_option maxHeartbeats 4000000 in
theorem cx_X1_retriesByGap_1 (l : Launch) (htr : l.stackTraces = false) {G : mG} {ad : Nat → Nat} {n : Nat} {r : Nat → Int32} {f : Nat → UInt32} {dv : Nat → Int32} {M0 : mM} {x : Nat} {v1 v2 v3 : Value} {u w : Int32} (hd : sAd n ad) (hn : n ≤ 6) (hS : sAt G ad n r f dv M0) (h_x : M0 x = some (eO 0 [.ref (ad 0), v1, v2, v3])) (hno : ¬ (inN u 4 ∧ inN w 3)) : mNo l yX1_retriesByGap (ws_ yX1_retriesByGap cX1_retriesByGap 3 (some .int)) (mRm 111 20 200) [.ref x, .int u, .int w] G M0 "java/lang/IndexOutOfBoundsException" := by
  refine mMetX.of (by decide +kernel) (Nat.le_of_ble_eq_true rfl) fun p e s m args below meth c A Q M hM0 F hnm hQ hQX htab hM ls hl => ?_
  have hM0 : M0 = M := hM0.symm
  subst hM0
  have hl : lv_has ls 3 [(0, .ref x), (1, .int u), (2, .int w)] := hl
  refine lv_aload_n F.1.1 F.1.2.1 dX1_retriesByGap_0 rfl (lv_at hl 0 rfl) ?_
  refine lv_iload_n F.1.1 F.1.2.1 dX1_retriesByGap_1 rfl (lv_at hl 1 rfl) ?_
  refine lv_iload_n F.1.1 F.1.2.1 dX1_retriesByGap_2 rfl (lv_at hl 2 rfl) ?_
  exact mx_Vn (As := [_, _]) F hM (cx_X1_checkReady_1 l htr hd hn hS h_x hno) (cwV 2 F.1.2.2.2.2 (lw_V q1422 q1424 qs31 q70 q1425) rfl rfl rfl (by decide +kernel) (mRm_ok (by decide) (by decide))) h_x (ci := 0) rfl rfl rfl hl.1 rfl (Nat.le_of_ble_eq_true rfl) dX1_retriesByGap_3 ⟨(Nat.le_of_ble_eq_true rfl), (Nat.le_of_ble_eq_true rfl)⟩ hQX htab (Nat.le_of_ble_eq_true rfl) (Nat.le_of_ble_eq_true rfl) ⟨rfl, rfl⟩
set_option maxHeartbeats 4000000 in
theorem cx_X1_retriesByGap_2 (l : Launch) (htr : l.stackTraces = false) {G : mG} {ad : Nat → Nat} {n : Nat} {r : Nat → Int32} {f : Nat → UInt32} {dv : Nat → Int32} {M0 : mM} {x : Nat} {v1 v2 v3 : Value} {d h : Nat} (hd : sAd n ad) (hn : n ≤ 6) (hS : sAt G ad n r f dv M0) (h_x : M0 x = some (eO 0 [.ref (ad 0), v1, v2, v3])) (h1 : d < 4) (h2 : h < 3) (hp : r (60 + d) = -1) : mNo l yX1_retriesByGap (ws_ yX1_retriesByGap cX1_retriesByGap 3 (some .int)) (mRm 111 20 200) [.ref x, .int (nI d), .int (nI h)] G M0 "java/lang/IllegalStateException" := by
  refine mMetX.of (by decide +kernel) (Nat.le_of_ble_eq_true rfl) fun p e s m args below meth c A Q M hM0 F hnm hQ hQX htab hM ls hl => ?_
  have hM0 : M0 = M := hM0.symm
  subst hM0
  have hl : lv_has ls 3 [(0, .ref x), (1, .int (nI d)), (2, .int (nI h))] := hl
  refine lv_aload_n F.1.1 F.1.2.1 dX1_retriesByGap_0 rfl (lv_at hl 0 rfl) ?_
  refine lv_iload_n F.1.1 F.1.2.1 dX1_retriesByGap_1 rfl (lv_at hl 1 rfl) ?_
  refine lv_iload_n F.1.1 F.1.2.1 dX1_retriesByGap_2 rfl (lv_at hl 2 rfl) ?_
  exact mx_Vn (As := [_, _]) F hM (cx_X1_checkReady_2 l htr hd hn hS h_x h1 h2 hp) (cwV 2 F.1.2.2.2.2 (lw_V q1422 q1424 qs31 q70 q1425) rfl rfl rfl (by decide +kernel) (mRm_ok (by decide) (by decide))) h_x (ci := 0) rfl rfl rfl hl.1 rfl (Nat.le_of_ble_eq_true rfl) dX1_retriesByGap_3 ⟨(Nat.le_of_ble_eq_true rfl), (Nat.le_of_ble_eq_true rfl)⟩ hQX htab (Nat.le_of_ble_eq_true rfl) (Nat.le_of_ble_eq_true rfl) ⟨rfl, rfl⟩
set_option maxHeartbeats 4000000 in
theorem cs_X1_readableIn (l : Launch) {G : mG} {ad : Nat → Nat} {n : Nat} {r : Nat → Int32} {f : Nat → UInt32} {dv : Nat → Int32} {M0 : mM} {x : Nat} {v1 v2 v3 : Value} {d k t : Nat} (hd : sAd n ad) (hn : n ≤ 6) (hS : sAt G ad n r f dv M0) (h_x : M0 x = some (eO 0 [.ref (ad 0), v1, v2, v3])) (h1 : d < 4) (h3 : k < n) (hI : mInv r f) (ht : r 88 = nI t) (ht8 : t ≤ 8) : mMet l yX1_readableIn (ws_ yX1_readableIn cX1_readableIn 3 (some .int)) (mRm 8 0 0) [.ref x, .int (nI d), .int (nI k)] G (pPre M0) (pPost M0 (some (.int (mRi r f d k t 3 0)))) := by
  refine mMet.of (by decide +kernel) (Nat.le_of_ble_eq_true rfl) fun p e s m args below meth c A Q M hM0 F hnm hQ hM ls hl => ?_
  have hM0 : M0 = M := hM0.symm
  subst hM0
  have hl : lv_has ls 3 [(0, .ref x), (1, .int (nI d)), (2, .int (nI k))] := hl
  refine lv_aload_n F.1.1 F.1.2.1 dX1_readableIn_0 rfl (lv_at hl 0 rfl) ?_
  refine lv_iload_n F.1.1 F.1.2.1 dX1_readableIn_1 rfl (lv_at hl 1 rfl) ?_
  refine mc_Va (As := [_]) F hM (cs_X1_drive l hd hn hS h_x h1) (cwV 1 F.1.2.2.2.2 (lw_V q1211 q1213 qs23 q70 q1214) rfl rfl rfl (by decide +kernel) (mRm_ok (by decide) (by decide))) h_x rfl rfl rfl rfl hl.1 rfl (Nat.le_of_ble_eq_true rfl) dX1_readableIn_2 ⟨Nat.le_of_ble_eq_true rfl, Nat.le_of_ble_eq_true rfl⟩ (fun H locs hM => ?_)
  refine lv_pop F.1.1 F.1.2.1 dX1_readableIn_5 rfl ?_
  refine lv_aload_n F.1.1 F.1.2.1 dX1_readableIn_6 rfl (lv_at hl 0 rfl) ?_
  refine lv_iload_n F.1.1 F.1.2.1 dX1_readableIn_7 rfl (lv_at hl 2 rfl) ?_
  refine mc_Va (As := [_]) F hM (cs_X1_pack l hd hn hS h_x h3) (cwV 1 F.1.2.2.2.2 (lw_V q1356 q1358 qs29 q70 q1359) rfl rfl rfl (by decide +kernel) (mRm_ok (by decide) (by decide))) h_x rfl rfl rfl rfl hl.1 rfl (Nat.le_of_ble_eq_true rfl) dX1_readableIn_8 ⟨Nat.le_of_ble_eq_true rfl, Nat.le_of_ble_eq_true rfl⟩ (fun H locs hM => ?_)
  refine lv_pop F.1.1 F.1.2.1 dX1_readableIn_11 rfl ?_
  refine lv_aload_n F.1.1 F.1.2.1 dX1_readableIn_12 rfl (lv_at hl 0 rfl) ?_
  refine cg0 F hM h_x 0 (by decide) q385 (fun x h => h) rfl dX1_readableIn_13 ?_
  refine lv_iload_n F.1.1 F.1.2.1 dX1_readableIn_16 rfl (lv_at hl 1 rfl) ?_
  refine lv_iload_n F.1.1 F.1.2.1 dX1_readableIn_17 rfl (lv_at hl 2 rfl) ?_
  refine mc_Va (As := [_, _]) F hM (hS.q2 hd (cs_X2_readableIn l hd hn hI ht ht8 h1 h3)) (cwV 2 F.1.2.2.2.2 (lw_V q1642 q1643 q1644 q71 q1645) rfl rfl rfl (by decide +kernel) (mRm_ok (by decide) (by decide))) (sq_0 hS) rfl rfl rfl rfl hl.1 rfl (Nat.le_of_ble_eq_true rfl) dX1_readableIn_18 ⟨Nat.le_of_ble_eq_true rfl, Nat.le_of_ble_eq_true rfl⟩ (fun H locs hM => ?_)
  exact mr_iret F hQ hM ⟨rfl, rfl⟩ (Nat.le_of_ble_eq_true rfl) (Nat.le_of_ble_eq_true rfl) dX1_readableIn_21
set_option maxHeartbeats 4000000 in
theorem cx_X1_readableIn (l : Launch) (htr : l.stackTraces = false) {G : mG} {ad : Nat → Nat} {n : Nat} {r : Nat → Int32} {f : Nat → UInt32} {dv : Nat → Int32} {M0 : mM} {x : Nat} {v1 v2 v3 : Value} {u w : Int32} (hd : sAd n ad) (hn : n ≤ 6) (hS : sAt G ad n r f dv M0) (h_x : M0 x = some (eO 0 [.ref (ad 0), v1, v2, v3])) (hno : ¬ (inN u 4 ∧ inN w n)) : mNo l yX1_readableIn (ws_ yX1_readableIn cX1_readableIn 3 (some .int)) (mRm 108 20 200) [.ref x, .int u, .int w] G M0 "java/lang/IndexOutOfBoundsException" := by
  refine mMetX.of (by decide +kernel) (Nat.le_of_ble_eq_true rfl) fun p e s m args below meth c A Q M hM0 F hnm hQ hQX htab hM ls hl => ?_
  have hM0 : M0 = M := hM0.symm
  subst hM0
  have hl : lv_has ls 3 [(0, .ref x), (1, .int u), (2, .int w)] := hl
  by_cases hu : inN u 4
  · obtain ⟨d, hd4, rfl⟩ := hu
    have hw : ¬ inN w n := fun q => hno ⟨⟨d, hd4, rfl⟩, q⟩
    refine lv_aload_n F.1.1 F.1.2.1 dX1_readableIn_0 rfl (lv_at hl 0 rfl) ?_
    refine lv_iload_n F.1.1 F.1.2.1 dX1_readableIn_1 rfl (lv_at hl 1 rfl) ?_
    refine mc_Va (As := [_]) F hM (cs_X1_drive l hd hn hS h_x hd4) (cwV 1 F.1.2.2.2.2 (lw_V q1211 q1213 qs23 q70 q1214) rfl rfl rfl (by decide +kernel) (mRm_ok (by decide) (by decide))) h_x rfl rfl rfl rfl hl.1 rfl (Nat.le_of_ble_eq_true rfl) dX1_readableIn_2 ⟨Nat.le_of_ble_eq_true rfl, Nat.le_of_ble_eq_true rfl⟩ (fun H locs hM => ?_)
    refine lv_pop F.1.1 F.1.2.1 dX1_readableIn_5 rfl ?_
    refine lv_aload_n F.1.1 F.1.2.1 dX1_readableIn_6 rfl (lv_at hl 0 rfl) ?_
    refine lv_iload_n F.1.1 F.1.2.1 dX1_readableIn_7 rfl (lv_at hl 2 rfl) ?_
    exact mx_Vn (As := [_]) F hM (cx_X1_pack l htr hd hn hS h_x hw) (cwV 1 F.1.2.2.2.2 (lw_V q1356 q1358 qs29 q70 q1359) rfl rfl rfl (by decide +kernel) (mRm_ok (by decide) (by decide))) h_x (ci := 0) rfl rfl rfl hl.1 rfl (Nat.le_of_ble_eq_true rfl) dX1_readableIn_8 ⟨(Nat.le_of_ble_eq_true rfl), (Nat.le_of_ble_eq_true rfl)⟩ hQX htab (Nat.le_of_ble_eq_true rfl) (Nat.le_of_ble_eq_true rfl) ⟨rfl, rfl⟩
  · refine lv_aload_n F.1.1 F.1.2.1 dX1_readableIn_0 rfl (lv_at hl 0 rfl) ?_
    refine lv_iload_n F.1.1 F.1.2.1 dX1_readableIn_1 rfl (lv_at hl 1 rfl) ?_
    exact mx_Vn (As := [_]) F hM (cx_X1_drive l htr hd hn hS h_x hu) (cwV 1 F.1.2.2.2.2 (lw_V q1211 q1213 qs23 q70 q1214) rfl rfl rfl (by decide +kernel) (mRm_ok (by decide) (by decide))) h_x (ci := 0) rfl rfl rfl hl.1 rfl (Nat.le_of_ble_eq_true rfl) dX1_readableIn_2 ⟨(Nat.le_of_ble_eq_true rfl), (Nat.le_of_ble_eq_true rfl)⟩ hQX htab (Nat.le_of_ble_eq_true rfl) (Nat.le_of_ble_eq_true rfl) ⟨rfl, rfl⟩
set_option maxHeartbeats 4000000 in
theorem cs_X1_reads (l : Launch) {G : mG} {ad : Nat → Nat} {n : Nat} {r : Nat → Int32} {f : Nat → UInt32} {dv : Nat → Int32} {M0 : mM} {x : Nat} {v1 v2 v3 : Value}  (hd : sAd n ad) (hn : n ≤ 6) (hS : sAt G ad n r f dv M0) (h_x : M0 x = some (eO 0 [.ref (ad 0), v1, v2, v3])) : mMet l yX1_reads (ws_ yX1_reads cX1_reads 1 (some .int)) (mRm 1 0 0) [.ref x] G (pPre M0) (pPost M0 (some (.int (r 114)))) := by
  refine mMet.of (by decide +kernel) (Nat.le_of_ble_eq_true rfl) fun p e s m args below meth c A Q M hM0 F hnm hQ hM ls hl => ?_
  have hM0 : M0 = M := hM0.symm
  subst hM0
  have hl : lv_has ls 1 [(0, .ref x)] := hl
  refine lv_aload_n F.1.1 F.1.2.1 dX1_reads_0 rfl (lv_at hl 0 rfl) ?_
  refine cg0 F hM h_x 0 (by decide) q385 (fun x h => h) rfl dX1_reads_1 ?_
  refine cg1 F hM (sq_0 hS) 5 (by decide) q317 (fun x h => h) rfl dX1_reads_4 ?_
  exact mr_iret F hQ hM ⟨rfl, rfl⟩ (Nat.le_of_ble_eq_true rfl) (Nat.le_of_ble_eq_true rfl) dX1_reads_7
set_option maxHeartbeats 4000000 in
theorem cs_X1_failures (l : Launch) {G : mG} {ad : Nat → Nat} {n : Nat} {r : Nat → Int32} {f : Nat → UInt32} {dv : Nat → Int32} {M0 : mM} {x : Nat} {v1 v2 v3 : Value}  (hd : sAd n ad) (hn : n ≤ 6) (hS : sAt G ad n r f dv M0) (h_x : M0 x = some (eO 0 [.ref (ad 0), v1, v2, v3])) : mMet l yX1_failures (ws_ yX1_failures cX1_failures 1 (some .int)) (mRm 1 0 0) [.ref x] G (pPre M0) (pPost M0 (some (.int (r 115)))) := by
  refine mMet.of (by decide +kernel) (Nat.le_of_ble_eq_true rfl) fun p e s m args below meth c A Q M hM0 F hnm hQ hM ls hl => ?_
  have hM0 : M0 = M := hM0.symm
  subst hM0
  have hl : lv_has ls 1 [(0, .ref x)] := hl
  refine lv_aload_n F.1.1 F.1.2.1 dX1_failures_0 rfl (lv_at hl 0 rfl) ?_
  refine cg0 F hM h_x 0 (by decide) q385 (fun x h => h) rfl dX1_failures_1 ?_
  refine cg1 F hM (sq_0 hS) 6 (by decide) q319 (fun x h => h) rfl dX1_failures_4 ?_
  exact mr_iret F hQ hM ⟨rfl, rfl⟩ (Nat.le_of_ble_eq_true rfl) (Nat.le_of_ble_eq_true rfl) dX1_failures_7
set_option maxHeartbeats 4000000 in
theorem cs_X1_sum (l : Launch) {G : mG} {M0 : mM} {a a0 k : Nat} {r : Nat → Int32} (h_a : M0 a = some (eI (G.2.1 0) k (sSl r a0 k))) (hk : k < 100) : mMet l yX1_sum (ws_ yX1_sum cX1_sum 3 (some .int)) (mRm 1 0 0) [.ref a] G (pPre M0) (pPost M0 (some (.int (mSm r a0 k)))) := by
  refine mMet.of (by decide +kernel) (Nat.le_of_ble_eq_true rfl) fun p e s m args below meth c A Q M hM0 F hnm hQ hM ls hl => ?_
  have hM0 : M0 = M := hM0.symm
  subst hM0
  have hl : lv_has ls 3 [(0, .ref a)] := hl
  refine mr_iconst F 0 dX1_sum_0 (by decide +kernel) ?_
  refine lv_istore_n (lv' := [(1, _), (0, _)]) F.1.1 F.1.2.1 dX1_sum_1 rfl hl (by decide) rfl (fun ls hl => ?_)
  refine mr_iconst F 0 dX1_sum_2 (by decide +kernel) ?_
  refine lv_istore_n (lv' := [(2, _), (1, _), (0, _)]) F.1.1 F.1.2.1 dX1_sum_3 rfl hl (by decide) rfl (fun ls hl => ?_)
  have lp : ∀ j i : Nat, i + j = k → ∀ ls : Array Slot, lv_has ls 3 [(2, .int (nI i)), (1, .int (mSm r a0 i)), (0, .ref a)] → W p l e (mRm 1 0 0) s m args below meth c s.heap [] 0 0 Q (F0 m 4 ls []) := by
    intro j
    induction j with
    | zero =>
      intro i hi ls hl
      obtain rfl : i = k := by omega
      refine lv_iload_n F.1.1 F.1.2.1 dX1_sum_4 rfl (lv_at hl 0 rfl) ?_
      refine lv_aload_n F.1.1 F.1.2.1 dX1_sum_5 rfl (lv_at hl 2 rfl) ?_
      refine mr_alenI F hM h_a dX1_sum_6 ?_
      refine mr_icmp_geN F (tgt := 22) dX1_sum_7 (by decide) (by omega) (by omega) (fun c7 => ?_) (fun c7 => ?_)
      · refine lv_iload_n F.1.1 F.1.2.1 dX1_sum_22 rfl (lv_at hl 1 rfl) ?_
        exact mr_iret F hQ hM ⟨rfl, rfl⟩ (Nat.le_of_ble_eq_true rfl) (Nat.le_of_ble_eq_true rfl) dX1_sum_23
      · exact absurd c7 (by omega)
    | succ j ih =>
      intro i hi ls hl
      refine lv_iload_n F.1.1 F.1.2.1 dX1_sum_4 rfl (lv_at hl 0 rfl) ?_
      refine lv_aload_n F.1.1 F.1.2.1 dX1_sum_5 rfl (lv_at hl 2 rfl) ?_
      refine mr_alenI F hM h_a dX1_sum_6 ?_
      refine mr_icmp_geN F (tgt := 22) dX1_sum_7 (by decide) (by omega) (by omega) (fun c7 => ?_) (fun c7 => ?_)
      · exact absurd c7 (by omega)
      · refine lv_iload_n F.1.1 F.1.2.1 dX1_sum_10 rfl (lv_at hl 1 rfl) ?_
        refine lv_aload_n F.1.1 F.1.2.1 dX1_sum_11 rfl (lv_at hl 2 rfl) ?_
        refine lv_iload_n F.1.1 F.1.2.1 dX1_sum_12 rfl (lv_at hl 0 rfl) ?_
        refine mr_ialdS F hM (j0 := a0 + i) h_a (by omega) (by omega) rfl dX1_sum_13 ?_
        refine lv_iadd F.1.1 F.1.2.1 dX1_sum_14 ?_
        refine lv_istore_n (lv' := [(1, _), (2, _), (0, _)]) F.1.1 F.1.2.1 dX1_sum_15 rfl hl (by decide) rfl (fun ls hl => ?_)
        refine lv_iinc (lv' := [(2, _), (1, _), (0, _)]) F.1.1 F.1.2.1 dX1_sum_16 hl (k := 1) rfl (nK_add _ 1) (by decide) rfl (fun ls hl => ?_)
        refine lv_goto (tgt := 4) F.1.1 F.1.2.1 dX1_sum_19 (by decide) ?_
        exact ih (i + 1) (by omega) _ (lv_sub hl [0, 1, 2] rfl)
  exact lp k 0 (by omega) _ (lv_sub hl [0, 1, 2] rfl)
set_option maxHeartbeats 4000000 in
theorem cs_X1_retriesByDrives (l : Launch) {G : mG} {ad : Nat → Nat} {n : Nat} {r : Nat → Int32} {f : Nat → UInt32} {dv : Nat → Int32} {M0 : mM} {x : Nat} {v1 v2 v3 : Value}  (hd : sAd n ad) (hn : n ≤ 6) (hS : sAt G ad n r f dv M0) (h_x : M0 x = some (eO 0 [.ref (ad 0), v1, v2, v3])) : mMet l yX1_retriesByDrives (ws_ yX1_retriesByDrives cX1_retriesByDrives 1 (some .int)) (mRm 2 0 0) [.ref x] G (pPre M0) (pPost M0 (some (.int (mSm r 116 4)))) := by
  refine mMet.of (by decide +kernel) (Nat.le_of_ble_eq_true rfl) fun p e s m args below meth c A Q M hM0 F hnm hQ hM ls hl => ?_
  have hM0 : M0 = M := hM0.symm
  subst hM0
  have hl : lv_has ls 1 [(0, .ref x)] := hl
  refine lv_aload_n F.1.1 F.1.2.1 dX1_retriesByDrives_0 rfl (lv_at hl 0 rfl) ?_
  refine cg0 F hM h_x 0 (by decide) q385 (fun x h => h) rfl dX1_retriesByDrives_1 ?_
  refine cg1 F hM (sq_0 hS) 2 (by decide) q311 (fun x h => h) rfl dX1_retriesByDrives_4 ?_
  refine mc_Sa (As := [_]) F hM (cs_X1_sum l (sq_4 hS) (by decide)) (va_cwS 1 F.1.2.2.2.2 (lw_S q425 q426 q70 q427) rfl rfl rfl (by decide +kernel) (mRm_ok (by decide) (by decide))) rfl rfl hl.1 rfl (Nat.le_of_ble_eq_true rfl) dX1_retriesByDrives_7 ⟨Nat.le_of_ble_eq_true rfl, Nat.le_of_ble_eq_true rfl⟩ (fun H locs hM => ?_)
  exact mr_iret F hQ hM ⟨rfl, rfl⟩ (Nat.le_of_ble_eq_true rfl) (Nat.le_of_ble_eq_true rfl) dX1_retriesByDrives_10
set_option maxHeartbeats 4000000 in
theorem cs_X1_retriesByPacks (l : Launch) {G : mG} {ad : Nat → Nat} {n : Nat} {r : Nat → Int32} {f : Nat → UInt32} {dv : Nat → Int32} {M0 : mM} {x : Nat} {v1 v2 v3 : Value}  (hd : sAd n ad) (hn : n ≤ 6) (hS : sAt G ad n r f dv M0) (h_x : M0 x = some (eO 0 [.ref (ad 0), v1, v2, v3])) : mMet l yX1_retriesByPacks (ws_ yX1_retriesByPacks cX1_retriesByPacks 1 (some .int)) (mRm 2 0 0) [.ref x] G (pPre M0) (pPost M0 (some (.int (mSm r 120 6)))) := by
  refine mMet.of (by decide +kernel) (Nat.le_of_ble_eq_true rfl) fun p e s m args below meth c A Q M hM0 F hnm hQ hM ls hl => ?_
  have hM0 : M0 = M := hM0.symm
  subst hM0
  have hl : lv_has ls 1 [(0, .ref x)] := hl
  refine lv_aload_n F.1.1 F.1.2.1 dX1_retriesByPacks_0 rfl (lv_at hl 0 rfl) ?_
  refine cg0 F hM h_x 0 (by decide) q385 (fun x h => h) rfl dX1_retriesByPacks_1 ?_
  refine cg1 F hM (sq_0 hS) 3 (by decide) q313 (fun x h => h) rfl dX1_retriesByPacks_4 ?_
  refine mc_Sa (As := [_]) F hM (cs_X1_sum l (sq_5 hS) (by decide)) (va_cwS 1 F.1.2.2.2.2 (lw_S q425 q426 q70 q427) rfl rfl rfl (by decide +kernel) (mRm_ok (by decide) (by decide))) rfl rfl hl.1 rfl (Nat.le_of_ble_eq_true rfl) dX1_retriesByPacks_7 ⟨Nat.le_of_ble_eq_true rfl, Nat.le_of_ble_eq_true rfl⟩ (fun H locs hM => ?_)
  exact mr_iret F hQ hM ⟨rfl, rfl⟩ (Nat.le_of_ble_eq_true rfl) (Nat.le_of_ble_eq_true rfl) dX1_retriesByPacks_10
set_option maxHeartbeats 4000000 in
theorem cs_X1_meanRetries (l : Launch) {G : mG} {ad : Nat → Nat} {n : Nat} {r : Nat → Int32} {f : Nat → UInt32} {dv : Nat → Int32} {M0 : mM} {x : Nat} {v1 v2 v3 : Value}  (hd : sAd n ad) (hn : n ≤ 6) (hS : sAt G ad n r f dv M0) (h_x : M0 x = some (eO 0 [.ref (ad 0), v1, v2, v3])) : mMet l yX1_meanRetries (ws_ yX1_meanRetries cX1_meanRetries 2 (some .double)) (mRm 2 0 0) [.ref x] G (pPre M0) (pPost M0 (some (.double (mMn r)))) := by
  refine mMet.of (by decide +kernel) (Nat.le_of_ble_eq_true rfl) fun p e s m args below meth c A Q M hM0 F hnm hQ hM ls hl => ?_
  have hM0 : M0 = M := hM0.symm
  subst hM0
  have hl : lv_has ls 2 [(0, .ref x)] := hl
  refine lv_aload_n F.1.1 F.1.2.1 dX1_meanRetries_0 rfl (lv_at hl 0 rfl) ?_
  refine cg0 F hM h_x 0 (by decide) q385 (fun x h => h) rfl dX1_meanRetries_1 ?_
  refine cg1 F hM (sq_0 hS) 5 (by decide) q317 (fun x h => h) rfl dX1_meanRetries_4 ?_
  refine lv_aload_n F.1.1 F.1.2.1 dX1_meanRetries_7 rfl (lv_at hl 0 rfl) ?_
  refine cg0 F hM h_x 0 (by decide) q385 (fun x h => h) rfl dX1_meanRetries_8 ?_
  refine cg1 F hM (sq_0 hS) 6 (by decide) q319 (fun x h => h) rfl dX1_meanRetries_11 ?_
  refine lv_iadd F.1.1 F.1.2.1 dX1_meanRetries_14 ?_
  refine lv_istore_n (lv' := [(1, _), (0, _)]) F.1.1 F.1.2.1 dX1_meanRetries_15 rfl hl (by decide) rfl (fun ls hl => ?_)
  refine lv_iload_n F.1.1 F.1.2.1 dX1_meanRetries_16 rfl (lv_at hl 0 rfl) ?_
  refine lv_if_ne (tgt := 24) F.1.1 F.1.2.1 dX1_meanRetries_17 (by decide) (fun c17 => ?_) (fun c17 => ?_)
  · have hE : mMn r = FP.ddiv (FP.i2d (mSm r 116 4)) (FP.i2d (r 114 + r 115)) := if_neg c17
    refine lv_aload_n F.1.1 F.1.2.1 dX1_meanRetries_24 rfl (lv_at hl 1 rfl) ?_
    refine cg0 F hM h_x 0 (by decide) q385 (fun x h => h) rfl dX1_meanRetries_25 ?_
    refine cg1 F hM (sq_0 hS) 2 (by decide) q311 (fun x h => h) rfl dX1_meanRetries_28 ?_
    refine mc_Sa (As := [_]) F hM (cs_X1_sum l (sq_4 hS) (by decide)) (va_cwS 1 F.1.2.2.2.2 (lw_S q425 q426 q70 q427) rfl rfl rfl (by decide +kernel) (mRm_ok (by decide) (by decide))) rfl rfl hl.1 rfl (Nat.le_of_ble_eq_true rfl) dX1_meanRetries_31 ⟨Nat.le_of_ble_eq_true rfl, Nat.le_of_ble_eq_true rfl⟩ (fun H locs hM => ?_)
    refine lv_i2d F.1.1 F.1.2.1 dX1_meanRetries_34 ?_
    refine lv_iload_n F.1.1 F.1.2.1 dX1_meanRetries_35 rfl (lv_at hl 0 rfl) ?_
    refine lv_i2d F.1.1 F.1.2.1 dX1_meanRetries_36 ?_
    refine lv_ddiv F.1.1 F.1.2.1 dX1_meanRetries_37 (fd_ok c17) ?_
    exact mr_dret F hQ hM ⟨by rw [hE], rfl⟩ (Nat.le_of_ble_eq_true rfl) (Nat.le_of_ble_eq_true rfl) dX1_meanRetries_38
  · have hE : mMn r = FP.dconst0 := if_pos c17
    refine lv_dconst0 F.1.1 F.1.2.1 dX1_meanRetries_20 ?_
    refine lv_goto (tgt := 38) F.1.1 F.1.2.1 dX1_meanRetries_21 (by decide) ?_
    exact mr_dret F hQ hM ⟨by rw [hE], rfl⟩ (Nat.le_of_ble_eq_true rfl) (Nat.le_of_ble_eq_true rfl) dX1_meanRetries_38
set_option maxHeartbeats 4000000 in
theorem cs_X1_writtenOn (l : Launch) {G : mG} {ad : Nat → Nat} {n : Nat} {r : Nat → Int32} {f : Nat → UInt32} {dv : Nat → Int32} {M0 : mM} {x : Nat} {v1 v2 v3 : Value} {k : Nat} (hd : sAd n ad) (hn : n ≤ 6) (hS : sAt G ad n r f dv M0) (h_x : M0 x = some (eO 0 [.ref (ad 0), v1, v2, v3])) (h3 : k < n) : mMet l yX1_writtenOn (ws_ yX1_writtenOn cX1_writtenOn 6 (some .int)) (mRm 8 0 0) [.ref x, .int (nI k)] G (pPre M0) (pPost M0 (some (.int (mWn r (120 * k) 120)))) := by
  refine mMet.of (by decide +kernel) (Nat.le_of_ble_eq_true rfl) fun p e s m args below meth c A Q M hM0 F hnm hQ hM ls hl => ?_
  have hM0 : M0 = M := hM0.symm
  subst hM0
  have hl : lv_has ls 6 [(0, .ref x), (1, .int (nI k))] := hl
  refine lv_aload_n F.1.1 F.1.2.1 dX1_writtenOn_0 rfl (lv_at hl 0 rfl) ?_
  refine lv_iload_n F.1.1 F.1.2.1 dX1_writtenOn_1 rfl (lv_at hl 1 rfl) ?_
  refine mc_Va (As := [_]) F hM (cs_X1_pack l hd hn hS h_x h3) (cwV 1 F.1.2.2.2.2 (lw_V q1356 q1358 qs29 q70 q1359) rfl rfl rfl (by decide +kernel) (mRm_ok (by decide) (by decide))) h_x rfl rfl rfl rfl hl.1 rfl (Nat.le_of_ble_eq_true rfl) dX1_writtenOn_2 ⟨Nat.le_of_ble_eq_true rfl, Nat.le_of_ble_eq_true rfl⟩ (fun H locs hM => ?_)
  refine lv_astore_n (lv' := [(2, _), (0, _), (1, _)]) F.1.1 F.1.2.1 dX1_writtenOn_5 rfl hl (by decide) rfl (fun ls hl => ?_)
  refine mr_iconst F 0 dX1_writtenOn_6 (by decide +kernel) ?_
  refine lv_istore_n (lv' := [(3, _), (2, _), (0, _), (1, _)]) F.1.1 F.1.2.1 dX1_writtenOn_7 rfl hl (by decide) rfl (fun ls hl => ?_)
  refine mr_iconst F 0 dX1_writtenOn_8 (by decide +kernel) ?_
  refine lv_istore (lv' := [(4, _), (3, _), (2, _), (0, _), (1, _)]) F.1.1 F.1.2.1 dX1_writtenOn_9 hl (by decide) rfl (fun ls hl => ?_)
  have lo : ∀ j i : Nat, i + j = 3 → ∀ (H : Heap) (locs : List Loc), mWd G A s.heap M0 H locs → ∀ ls : Array Slot, lv_has ls 6 [(4, .int (nI i)), (3, .int (mWn r (120 * k) (40 * i))), (2, .ref (ad (60 + k)))] → W p l e (mRm 8 0 0) s m args below meth c H locs 0 0 Q (F0 m 11 ls []) := by
    intro j
    induction j with
    | zero =>
      intro i hi H locs hM ls hl
      obtain rfl : i = 3 := by omega
      refine lv_iload F.1.1 F.1.2.1 dX1_writtenOn_11 (lv_at hl 0 rfl) ?_
      refine mr_iconst F 3 dX1_writtenOn_13 (by decide +kernel) ?_
      refine mr_icmp_geN F (tgt := 62) dX1_writtenOn_14 (by decide) (by omega) (by omega) (fun c14 => ?_) (fun c14 => ?_)
      · refine lv_iload_n F.1.1 F.1.2.1 dX1_writtenOn_62 rfl (lv_at hl 1 rfl) ?_
        exact mr_iret F hQ hM ⟨rfl, rfl⟩ (Nat.le_of_ble_eq_true rfl) (Nat.le_of_ble_eq_true rfl) dX1_writtenOn_63
      · exact absurd c14 (by omega)
    | succ j ih =>
      intro i hi H locs hM ls hl
      refine lv_iload F.1.1 F.1.2.1 dX1_writtenOn_11 (lv_at hl 0 rfl) ?_
      refine mr_iconst F 3 dX1_writtenOn_13 (by decide +kernel) ?_
      refine mr_icmp_geN F (tgt := 62) dX1_writtenOn_14 (by decide) (by omega) (by omega) (fun c14 => ?_) (fun c14 => ?_)
      · exact absurd c14 (by omega)
      · refine mr_iconst F 0 dX1_writtenOn_17 (by decide +kernel) ?_
        refine lv_istore (lv' := [(5, _), (4, _), (3, _), (2, _)]) F.1.1 F.1.2.1 dX1_writtenOn_18 hl (by decide) rfl (fun ls hl => ?_)
        have li : ∀ j2 q0 : Nat, q0 + j2 = 40 → ∀ (H : Heap) (locs : List Loc), mWd G A s.heap M0 H locs → ∀ ls : Array Slot, lv_has ls 6 [(5, .int (nI q0)), (4, .int (nI i)), (3, .int (mWn r (120 * k) (40 * i + q0))), (2, .ref (ad (60 + k)))] → W p l e (mRm 8 0 0) s m args below meth c H locs 0 0 Q (F0 m 20 ls []) := by
          intro j2
          induction j2 with
          | zero =>
            intro q0 hq H locs hM ls hl
            obtain rfl : q0 = 40 := by omega
            refine lv_iload F.1.1 F.1.2.1 dX1_writtenOn_20 (lv_at hl 0 rfl) ?_
            refine mr_bipush F 40 dX1_writtenOn_22 (by decide +kernel) ?_
            refine mr_icmp_geN F (tgt := 56) dX1_writtenOn_24 (by decide) (by omega) (by omega) (fun c24 => ?_) (fun c24 => ?_)
            · refine lv_iinc (lv' := [(4, _), (5, _), (3, _), (2, _)]) F.1.1 F.1.2.1 dX1_writtenOn_56 hl (k := 1) rfl (nK_add _ 1) (by decide) rfl (fun ls hl => ?_)
              refine lv_goto (tgt := 11) F.1.1 F.1.2.1 dX1_writtenOn_59 (by decide) ?_
              exact ih (i + 1) (by omega) _ _ hM _ (lv_sub hl [0, 2, 3] rfl)
            · exact absurd c24 (by omega)
          | succ j2 ih2 =>
            intro q0 hq H locs hM ls hl
            have eW : 126 + (120 * k + (40 * i + q0)) = 126 + (40 * (3 * k + i) + q0) := by omega
            refine lv_iload F.1.1 F.1.2.1 dX1_writtenOn_20 (lv_at hl 0 rfl) ?_
            refine mr_bipush F 40 dX1_writtenOn_22 (by decide +kernel) ?_
            refine mr_icmp_geN F (tgt := 56) dX1_writtenOn_24 (by decide) (by omega) (by omega) (fun c24 => ?_) (fun c24 => ?_)
            · exact absurd c24 (by omega)
            · refine lv_iload_n F.1.1 F.1.2.1 dX1_writtenOn_27 rfl (lv_at hl 2 rfl) ?_
              refine lv_aload_n F.1.1 F.1.2.1 dX1_writtenOn_28 rfl (lv_at hl 3 rfl) ?_
              refine cg6 F hM (sq_P hS hn (by omega)) 1 (by decide) q1129 (fun x h => h) rfl dX1_writtenOn_29 ?_
              refine lv_iload F.1.1 F.1.2.1 dX1_writtenOn_32 (lv_at hl 1 rfl) ?_
              refine mr_aald F.1.1 F.1.2.1 F.2.1 hM 7 (sq_U hS hn (by omega)) rfl (by omega) (by omega) (sSa_rf (by omega) (show 80 + 3 * k + i = 80 + (3 * k + i) by omega)) dX1_writtenOn_34 ?_
              refine lv_iload F.1.1 F.1.2.1 dX1_writtenOn_35 (lv_at hl 0 rfl) ?_
              refine mc_Va (As := [_]) F hM (hS.q2 hd (cs_X9_isEmpty l hd hn (by omega) (by omega))) (cwV 1 F.1.2.2.2.2 (lw_V q1555 q914 q915 q95 q916) rfl rfl rfl (by decide +kernel) (mRm_ok (by decide) (by decide))) (sq_S hS hn (by omega)) rfl rfl rfl rfl hl.1 rfl (Nat.le_of_ble_eq_true rfl) dX1_writtenOn_37 ⟨Nat.le_of_ble_eq_true rfl, Nat.le_of_ble_eq_true rfl⟩ (fun H locs hM => ?_)
              refine lv_if_eq (tgt := 47) F.1.1 F.1.2.1 dX1_writtenOn_40 (by decide) (fun c40 => ?_) (fun c40 => ?_)
              · refine mr_iconst F 1 dX1_writtenOn_47 (by decide +kernel) ?_
                refine lv_iadd F.1.1 F.1.2.1 dX1_writtenOn_48 ?_
                refine lv_istore_n (lv' := [(3, _), (5, _), (4, _), (2, _)]) F.1.1 F.1.2.1 dX1_writtenOn_49 rfl hl (by decide) rfl (fun ls hl => ?_)
                refine lv_iinc (lv' := [(5, _), (3, _), (4, _), (2, _)]) F.1.1 F.1.2.1 dX1_writtenOn_50 hl (k := 1) rfl (nK_add _ 1) (by decide) rfl (fun ls hl => ?_)
                refine lv_goto (tgt := 20) F.1.1 F.1.2.1 dX1_writtenOn_53 (by decide) ?_
                have hw : mWn r (120 * k) (40 * i + (q0 + 1)) = mWn r (120 * k) (40 * i + q0) + nI 1 := by
                  show mWn r (120 * k) (40 * i + q0) + (if r (126 + (120 * k + (40 * i + q0))) = -1 then nI 0 else nI 1) = _
                  rw [eW, if_neg (bI_0 c40)]
                exact ih2 (q0 + 1) (by omega) _ _ hM _ (lv_sub hl [0, 2, 1, 3] (by rw [hw]; rfl))
              · refine mr_iconst F 0 dX1_writtenOn_43 (by decide +kernel) ?_
                refine lv_goto (tgt := 48) F.1.1 F.1.2.1 dX1_writtenOn_44 (by decide) ?_
                refine lv_iadd F.1.1 F.1.2.1 dX1_writtenOn_48 ?_
                refine lv_istore_n (lv' := [(3, _), (5, _), (4, _), (2, _)]) F.1.1 F.1.2.1 dX1_writtenOn_49 rfl hl (by decide) rfl (fun ls hl => ?_)
                refine lv_iinc (lv' := [(5, _), (3, _), (4, _), (2, _)]) F.1.1 F.1.2.1 dX1_writtenOn_50 hl (k := 1) rfl (nK_add _ 1) (by decide) rfl (fun ls hl => ?_)
                refine lv_goto (tgt := 20) F.1.1 F.1.2.1 dX1_writtenOn_53 (by decide) ?_
                have hw : mWn r (120 * k) (40 * i + (q0 + 1)) = mWn r (120 * k) (40 * i + q0) + nI 0 := by
                  show mWn r (120 * k) (40 * i + q0) + (if r (126 + (120 * k + (40 * i + q0))) = -1 then nI 0 else nI 1) = _
                  rw [eW, if_pos (bI_n0 c40)]
                exact ih2 (q0 + 1) (by omega) _ _ hM _ (lv_sub hl [0, 2, 1, 3] (by rw [hw]; rfl))
        exact li 40 0 rfl _ _ hM _ (lv_sub hl [0, 1, 2, 3] rfl)
  exact lo 3 0 rfl _ _ hM _ (lv_sub hl [0, 1, 2] rfl)
set_option maxHeartbeats 4000000 in
theorem cx_X1_writtenOn (l : Launch) (htr : l.stackTraces = false) {G : mG} {ad : Nat → Nat} {n : Nat} {r : Nat → Int32} {f : Nat → UInt32} {dv : Nat → Int32} {M0 : mM} {x : Nat} {v1 v2 v3 : Value} {u : Int32} (hd : sAd n ad) (hn : n ≤ 6) (hS : sAt G ad n r f dv M0) (h_x : M0 x = some (eO 0 [.ref (ad 0), v1, v2, v3])) (hno : ¬ inN u n) : mNo l yX1_writtenOn (ws_ yX1_writtenOn cX1_writtenOn 6 (some .int)) (mRm 108 20 200) [.ref x, .int u] G M0 "java/lang/IndexOutOfBoundsException" := by
  refine mMetX.of (by decide +kernel) (Nat.le_of_ble_eq_true rfl) fun p e s m args below meth c A Q M hM0 F hnm hQ hQX htab hM ls hl => ?_
  have hM0 : M0 = M := hM0.symm
  subst hM0
  have hl : lv_has ls 6 [(0, .ref x), (1, .int u)] := hl
  refine lv_aload_n F.1.1 F.1.2.1 dX1_writtenOn_0 rfl (lv_at hl 0 rfl) ?_
  refine lv_iload_n F.1.1 F.1.2.1 dX1_writtenOn_1 rfl (lv_at hl 1 rfl) ?_
  exact mx_Vn (As := [_]) F hM (cx_X1_pack l htr hd hn hS h_x hno) (cwV 1 F.1.2.2.2.2 (lw_V q1356 q1358 qs29 q70 q1359) rfl rfl rfl (by decide +kernel) (mRm_ok (by decide) (by decide))) h_x (ci := 0) rfl rfl rfl hl.1 rfl (Nat.le_of_ble_eq_true rfl) dX1_writtenOn_2 ⟨(Nat.le_of_ble_eq_true rfl), (Nat.le_of_ble_eq_true rfl)⟩ hQX htab (Nat.le_of_ble_eq_true rfl) (Nat.le_of_ble_eq_true rfl) ⟨rfl, rfl⟩
set_option maxHeartbeats 4000000 in
theorem cs_X1_readableBy (l : Launch) {G : mG} {ad : Nat → Nat} {n : Nat} {r : Nat → Int32} {f : Nat → UInt32} {dv : Nat → Int32} {M0 : mM} {x : Nat} {v1 v2 v3 : Value} {k h q0 t : Nat} (hd : sAd n ad) (hn : n ≤ 6) (hS : sAt G ad n r f dv M0) (h_x : M0 x = some (eO 0 [.ref (ad 0), v1, v2, v3])) (h3 : k < n) (h2 : h < 3) (h4 : q0 < 40) (hI : mInv r f) (ht : r 88 = nI t) (ht8 : t ≤ 8) : mMet l yX1_readableBy (ws_ yX1_readableBy cX1_readableBy 6 (some .int)) (mRm 10 0 0) [.ref x, .int (nI k), .int (nI h), .int (nI q0)] G (pPre M0) (pPost M0 (some (.int (mRb r f k h q0 t 4)))) := by
  refine mMet.of (by decide +kernel) (Nat.le_of_ble_eq_true rfl) fun p e s m args below meth c A Q M hM0 F hnm hQ hM ls hl => ?_
  have hM0 : M0 = M := hM0.symm
  subst hM0
  have hl : lv_has ls 6 [(0, .ref x), (1, .int (nI k)), (2, .int (nI h)), (3, .int (nI q0))] := hl
  refine lv_aload_n F.1.1 F.1.2.1 dX1_readableBy_0 rfl (lv_at hl 0 rfl) ?_
  refine lv_iload_n F.1.1 F.1.2.1 dX1_readableBy_1 rfl (lv_at hl 1 rfl) ?_
  refine lv_iload_n F.1.1 F.1.2.1 dX1_readableBy_2 rfl (lv_at hl 2 rfl) ?_
  refine lv_iload_n F.1.1 F.1.2.1 dX1_readableBy_3 rfl (lv_at hl 3 rfl) ?_
  refine mc_Va (As := [_, _, _]) F hM (cs_X1_track l hd hn hS h_x h3 h2 h4) (cwV 3 F.1.2.2.2.2 (lw_V q1544 q1546 qs33 q70 q1547) rfl rfl rfl (by decide +kernel) (mRm_ok (by decide) (by decide))) h_x rfl rfl rfl rfl hl.1 rfl (Nat.le_of_ble_eq_true rfl) dX1_readableBy_4 ⟨Nat.le_of_ble_eq_true rfl, Nat.le_of_ble_eq_true rfl⟩ (fun H locs hM => ?_)
  refine lv_pop F.1.1 F.1.2.1 dX1_readableBy_7 rfl ?_
  refine mr_iconst F 0 dX1_readableBy_8 (by decide +kernel) ?_
  refine lv_istore (lv' := [(4, _), (0, _), (1, _), (2, _), (3, _)]) F.1.1 F.1.2.1 dX1_readableBy_9 hl (by decide) rfl (fun ls hl => ?_)
  refine mr_iconst F 0 dX1_readableBy_11 (by decide +kernel) ?_
  refine lv_istore (lv' := [(5, _), (4, _), (0, _), (1, _), (2, _), (3, _)]) F.1.1 F.1.2.1 dX1_readableBy_12 hl (by decide) rfl (fun ls hl => ?_)
  have lp : ∀ j i : Nat, i + j = 4 → ∀ (H : Heap) (locs : List Loc), mWd G A s.heap M0 H locs → ∀ ls : Array Slot, lv_has ls 6 [(5, .int (nI i)), (4, .int (mRb r f k h q0 t i)), (0, .ref x), (1, .int (nI k)), (2, .int (nI h)), (3, .int (nI q0))] → W p l e (mRm 10 0 0) s m args below meth c H locs 0 0 Q (F0 m 14 ls []) := by
    intro j
    induction j with
    | zero =>
      intro i hi H locs hM ls hl
      obtain rfl : i = 4 := by omega
      refine lv_iload F.1.1 F.1.2.1 dX1_readableBy_14 (lv_at hl 0 rfl) ?_
      refine mr_iconst F 4 dX1_readableBy_16 (by decide +kernel) ?_
      refine mr_icmp_geN F (tgt := 55) dX1_readableBy_17 (by decide) (by omega) (by omega) (fun c17 => ?_) (fun c17 => ?_)
      · refine lv_iload F.1.1 F.1.2.1 dX1_readableBy_55 (lv_at hl 1 rfl) ?_
        exact mr_iret F hQ hM ⟨rfl, rfl⟩ (Nat.le_of_ble_eq_true rfl) (Nat.le_of_ble_eq_true rfl) dX1_readableBy_57
      · exact absurd c17 (by omega)
    | succ j ih =>
      intro i hi H locs hM ls hl
      refine lv_iload F.1.1 F.1.2.1 dX1_readableBy_14 (lv_at hl 0 rfl) ?_
      refine mr_iconst F 4 dX1_readableBy_16 (by decide +kernel) ?_
      refine mr_icmp_geN F (tgt := 55) dX1_readableBy_17 (by decide) (by omega) (by omega) (fun c17 => ?_) (fun c17 => ?_)
      · exact absurd c17 (by omega)
      · refine lv_iload F.1.1 F.1.2.1 dX1_readableBy_20 (lv_at hl 1 rfl) ?_
        refine lv_aload_n F.1.1 F.1.2.1 dX1_readableBy_22 rfl (lv_at hl 2 rfl) ?_
        refine cg0 F hM h_x 0 (by decide) q385 (fun x h => h) rfl dX1_readableBy_23 ?_
        refine lv_iload F.1.1 F.1.2.1 dX1_readableBy_26 (lv_at hl 0 rfl) ?_
        refine lv_iload_n F.1.1 F.1.2.1 dX1_readableBy_28 rfl (lv_at hl 4 rfl) ?_
        refine lv_iload_n F.1.1 F.1.2.1 dX1_readableBy_29 rfl (lv_at hl 3 rfl) ?_
        refine lv_iload_n F.1.1 F.1.2.1 dX1_readableBy_30 rfl (lv_at hl 5 rfl) ?_
        refine mc_Va (As := [_, _, _, _]) F hM (hS.q2 hd (cs_X2_retries_2 l hd hn hI ht ht8 (by omega) h2 h3 h4)) (cwV 4 F.1.2.2.2.2 (lw_V q1634 q951 q952 q71 q953) rfl rfl rfl (by decide +kernel) (mRm_ok (by decide) (by decide))) (sq_0 hS) rfl rfl rfl rfl hl.1 rfl (Nat.le_of_ble_eq_true rfl) dX1_readableBy_31 ⟨Nat.le_of_ble_eq_true rfl, Nat.le_of_ble_eq_true rfl⟩ (fun H locs hM => ?_)
        refine lv_iconst (v := -1) F.1.1 F.1.2.1 dX1_readableBy_34 (by decide +kernel) ?_
        refine lv_icmp_eq (tgt := 45) F.1.1 F.1.2.1 dX1_readableBy_35 (by decide) (fun c35 => ?_) (fun c35 => ?_)
        · refine mr_iconst F 0 dX1_readableBy_45 (by decide +kernel) ?_
          refine lv_ior F.1.1 F.1.2.1 dX1_readableBy_46 ?_
          refine lv_istore (lv' := [(4, _), (5, _), (0, _), (1, _), (2, _), (3, _)]) F.1.1 F.1.2.1 dX1_readableBy_47 hl (by decide) rfl (fun ls hl => ?_)
          refine lv_iinc (lv' := [(5, _), (4, _), (0, _), (1, _), (2, _), (3, _)]) F.1.1 F.1.2.1 dX1_readableBy_49 hl (k := 1) rfl (nK_add _ 1) (by decide) rfl (fun ls hl => ?_)
          refine lv_goto (tgt := 14) F.1.1 F.1.2.1 dX1_readableBy_52 (by decide) ?_
          have hw : mRb r f k h q0 t (i + 1) = mRb r f k h q0 t i ||| (nI 0) := by
            show mRb r f k h q0 t i ||| (if mRt r f i h k q0 t = -1 then nI 0 else nI 1 <<< (nI i &&& 31)) = _
            rw [if_pos c35]
          exact ih (i + 1) (by omega) _ _ hM _ (lv_sub hl [0, 1, 2, 3, 4, 5] (by rw [hw]; rfl))
        · refine mr_iconst F 1 dX1_readableBy_38 (by decide +kernel) ?_
          refine lv_iload F.1.1 F.1.2.1 dX1_readableBy_39 (lv_at hl 0 rfl) ?_
          refine lv_ishl F.1.1 F.1.2.1 dX1_readableBy_41 ?_
          refine lv_goto (tgt := 46) F.1.1 F.1.2.1 dX1_readableBy_42 (by decide) ?_
          refine lv_ior F.1.1 F.1.2.1 dX1_readableBy_46 ?_
          refine lv_istore (lv' := [(4, _), (5, _), (0, _), (1, _), (2, _), (3, _)]) F.1.1 F.1.2.1 dX1_readableBy_47 hl (by decide) rfl (fun ls hl => ?_)
          refine lv_iinc (lv' := [(5, _), (4, _), (0, _), (1, _), (2, _), (3, _)]) F.1.1 F.1.2.1 dX1_readableBy_49 hl (k := 1) rfl (nK_add _ 1) (by decide) rfl (fun ls hl => ?_)
          refine lv_goto (tgt := 14) F.1.1 F.1.2.1 dX1_readableBy_52 (by decide) ?_
          have hw : mRb r f k h q0 t (i + 1) = mRb r f k h q0 t i ||| (nI 1 <<< (nI i &&& 31)) := by
            show mRb r f k h q0 t i ||| (if mRt r f i h k q0 t = -1 then nI 0 else nI 1 <<< (nI i &&& 31)) = _
            rw [if_neg c35]
          exact ih (i + 1) (by omega) _ _ hM _ (lv_sub hl [0, 1, 2, 3, 4, 5] (by rw [hw]; rfl))
  exact lp 4 0 rfl _ _ hM _ (lv_sub hl [0, 1, 2, 3, 4, 5] rfl)
set_option maxHeartbeats 4000000 in
theorem cx_X1_readableBy (l : Launch) (htr : l.stackTraces = false) {G : mG} {ad : Nat → Nat} {n : Nat} {r : Nat → Int32} {f : Nat → UInt32} {dv : Nat → Int32} {M0 : mM} {x : Nat} {v1 v2 v3 : Value} {u w z : Int32} (hd : sAd n ad) (hn : n ≤ 6) (hS : sAt G ad n r f dv M0) (h_x : M0 x = some (eO 0 [.ref (ad 0), v1, v2, v3])) (hno : ¬ (inN u n ∧ inN w 3 ∧ inN z 40)) : mNo l yX1_readableBy (ws_ yX1_readableBy cX1_readableBy 6 (some .int)) (mRm 110 20 200) [.ref x, .int u, .int w, .int z] G M0 "java/lang/IndexOutOfBoundsException" := by
  refine mMetX.of (by decide +kernel) (Nat.le_of_ble_eq_true rfl) fun p e s m args below meth c A Q M hM0 F hnm hQ hQX htab hM ls hl => ?_
  have hM0 : M0 = M := hM0.symm
  subst hM0
  have hl : lv_has ls 6 [(0, .ref x), (1, .int u), (2, .int w), (3, .int z)] := hl
  refine lv_aload_n F.1.1 F.1.2.1 dX1_readableBy_0 rfl (lv_at hl 0 rfl) ?_
  refine lv_iload_n F.1.1 F.1.2.1 dX1_readableBy_1 rfl (lv_at hl 1 rfl) ?_
  refine lv_iload_n F.1.1 F.1.2.1 dX1_readableBy_2 rfl (lv_at hl 2 rfl) ?_
  refine lv_iload_n F.1.1 F.1.2.1 dX1_readableBy_3 rfl (lv_at hl 3 rfl) ?_
  exact mx_Vn (As := [_, _, _]) F hM (cx_X1_track l htr hd hn hS h_x hno) (cwV 3 F.1.2.2.2.2 (lw_V q1544 q1546 qs33 q70 q1547) rfl rfl rfl (by decide +kernel) (mRm_ok (by decide) (by decide))) h_x (ci := 0) rfl rfl rfl hl.1 rfl (Nat.le_of_ble_eq_true rfl) dX1_readableBy_4 ⟨(Nat.le_of_ble_eq_true rfl), (Nat.le_of_ble_eq_true rfl)⟩ hQX htab (Nat.le_of_ble_eq_true rfl) (Nat.le_of_ble_eq_true rfl) ⟨rfl, rfl⟩
