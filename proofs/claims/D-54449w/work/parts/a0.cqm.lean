/-! DISKPACKS: what it tells of heads, drives, packs -/
set_option maxHeartbeats 4000000 in
theorem cs_X3_isData_S (l : Launch) {G : mG} {ad : Nat → Nat} {n : Nat} {r : Nat → Int32} {f : Nat → UInt32} {dv : Nat → Int32} {M0 : mM} {d : Nat} (htr : l.stackTraces = false) (hd : sAd n ad) (hn : n ≤ 6) (hS : sAt G ad n r f dv M0) (h1 : d < 4) : mMet l yX3_isData (ws_ yX3_isData cX3_isData 3 (some .boolean)) (mRm 102 4 53) [.ref (ad (10 + d)), .int (nI 3)] G (pPre M0) (pPost M0 (some (.int (nI 0)))) := by
  refine mMet.of (by decide +kernel) (Nat.le_of_ble_eq_true rfl) fun p e s m args below meth c A Q M hM0 F hnm hQ hM ls hl => ?_
  have hM0 : M0 = M := hM0.symm
  subst hM0
  have hl : lv_has ls 3 [(0, .ref (ad (10 + d))), (1, .int (nI 3))] := hl
  refine mr_iconst F 3 dX3_isData_0 (by decide +kernel) ?_
  refine mr_newQ F hM 5 q154 q155 rfl (Nat.le_of_ble_eq_true rfl) (Nat.le_of_ble_eq_true rfl) (Nat.le_of_ble_eq_true rfl) dX3_isData_1 (fun a9 H hq_a9 hM => ?_)
  have o_a9 := hS.out hq_a9
  have hS := nw_S hM hq_a9 hS
  have h_a9 := nw_self hM
  have hN := fun (a : Nat) (e : mE) (h : M0 a = some e) => nw_new hM hq_a9 h
  have w9 := fun (a : Nat) (e : mE) (h : M0 a = some e) => kp_ne hq_a9 h
  refine lv_astore_n (lv' := [(2, _), (0, _), (1, _)]) F.1.1 F.1.2.1 dX3_isData_4 rfl hl (by decide) rfl (fun ls hl => ?_)
  refine lv_aload_n F.1.1 F.1.2.1 dX3_isData_5 rfl (lv_at hl 1 rfl) ?_
  refine cg2 F hM (sq_D hS (by omega)) 0 (by decide) q273 (fun x h => h) rfl dX3_isData_6 ?_
  refine mr_iconst F 0 dX3_isData_9 (by decide +kernel) ?_
  refine lv_aload_n F.1.1 F.1.2.1 dX3_isData_10 rfl (lv_at hl 0 rfl) ?_
  refine mr_iconst F 0 dX3_isData_11 (by decide +kernel) ?_
  refine mr_iconst F 3 dX3_isData_12 (by decide +kernel) ?_
  refine mr_copyQ F hM q1412 5 4 rfl rfl (sq_A hS h1) h_a9 (by omega) (by omega) (by omega) (by omega) (by omega) (fun i hi y hy => by
      obtain rfl : ad (40 + 4 * d + (0 + i)) = y := Option.some.inj ((if_pos (show 0 + i < 3 by omega)).symm.trans hy)
      have := sq_HD hS h1 hi
      rw [show 40 + (4 * d + i) = 40 + 4 * d + (0 + i) by omega] at this
      exact ⟨_, this⟩) hl.1 (Nat.le_of_ble_eq_true rfl) (Nat.le_of_ble_eq_true rfl) dX3_isData_13 (fun H locs hM => ?_)
  have hS := nw_SP hM o_a9 hS
  have h_a9 := nw_self hM
  have hN := fun (a : Nat) (e : mE) (h : M0 a = some e) => nw_put hM (w9 a e h) (hN a e h)
  refine lv_aload_n F.1.1 F.1.2.1 dX3_isData_16 rfl (lv_at hl 0 rfl) ?_
  refine mr_iconst F 0 dX3_isData_17 (by decide +kernel) ?_
  refine lv_aload_n F.1.1 F.1.2.1 dX3_isData_18 rfl (lv_at hl 1 rfl) ?_
  refine lv_iload_n F.1.1 F.1.2.1 dX3_isData_19 rfl (lv_at hl 2 rfl) ?_
  refine mc_Va (As := [_]) F hM (hS.q2 hd (cs_X3_head_S l hd hn (by omega))) (cwV 1 F.1.2.2.2.2 (lw_V q885 q886 q887 q75 q888) rfl rfl rfl (by decide +kernel) (mRm_ok (by decide) (by decide))) (sq_D hS (by omega)) rfl rfl rfl rfl hl.1 rfl (Nat.le_of_ble_eq_true rfl) dX3_isData_20 ⟨Nat.le_of_ble_eq_true rfl, Nat.le_of_ble_eq_true rfl⟩ (fun H locs hM => ?_)
  refine mc_SNW (n := 3) (As := [_, _, _]) F hM (cs_X1_fits_no l htr h_a9 (sq_HS hS h1) (by decide)) q198 q196 q197 q70 (by decide +kernel) (mRm_ok (by decide) (by decide)) rfl rfl hl.1 rfl (Nat.le_of_ble_eq_true rfl) dX3_isData_23 ⟨Nat.le_of_ble_eq_true rfl, Nat.le_of_ble_eq_true rfl⟩ (fun H locs hM => ?_)
  exact mr_zret F hQ rfl (hM.sub hN) ⟨rfl, rfl⟩ (Nat.le_of_ble_eq_true rfl) (Nat.le_of_ble_eq_true rfl) dX3_isData_26
set_option maxHeartbeats 4000000 in
theorem cx_X1_checkData (l : Launch) (htr : l.stackTraces = false) {G : mG} {ad : Nat → Nat} {n : Nat} {r : Nat → Int32} {f : Nat → UInt32} {dv : Nat → Int32} {M0 : mM} {x : Nat} {v1 v2 v3 : Value} {u w : Int32} (hd : sAd n ad) (hn : n ≤ 6) (hS : sAt G ad n r f dv M0) (h_x : M0 x = some (eO 0 [.ref (ad 0), v1, v2, v3])) (hno : ¬ (inN u 4 ∧ inN w 3)) : mNo l yX1_checkData (ws_ yX1_checkData cX1_checkData 3 none) (mRm 109 8 80) [.ref x, .int u, .int w] G M0 "java/lang/IndexOutOfBoundsException" := by
  refine mMetX.of (by decide +kernel) (Nat.le_of_ble_eq_true rfl) fun p e s m args below meth c A Q M hM0 F hnm hQ hQX htab hM ls hl => ?_
  have hM0 : M0 = M := hM0.symm
  subst hM0
  have hl : lv_has ls 3 [(0, .ref x), (1, .int u), (2, .int w)] := hl
  by_cases hu : inN u 4 ∧ inN w 4
  · obtain ⟨⟨d, hd4, rfl⟩, h, hh4, rfl⟩ := hu
    obtain rfl : h = 3 := by
      refine Classical.byContradiction fun q => hno ⟨⟨d, hd4, rfl⟩, h, by omega, rfl⟩
    refine lv_aload_n F.1.1 F.1.2.1 dX1_checkData_0 rfl (lv_at hl 0 rfl) ?_
    refine lv_iload_n F.1.1 F.1.2.1 dX1_checkData_1 rfl (lv_at hl 1 rfl) ?_
    refine lv_iload_n F.1.1 F.1.2.1 dX1_checkData_2 rfl (lv_at hl 2 rfl) ?_
    refine mc_Va (As := [_, _]) F hM (cs_X1_head_S l hd hn hS h_x hd4) (cwV 2 F.1.2.2.2.2 (lw_V q1207 q1209 qs22 q70 q1210) rfl rfl rfl (by decide +kernel) (mRm_ok (by decide) (by decide))) h_x rfl rfl rfl rfl hl.1 rfl (Nat.le_of_ble_eq_true rfl) dX1_checkData_3 ⟨Nat.le_of_ble_eq_true rfl, Nat.le_of_ble_eq_true rfl⟩ (fun H locs hM => ?_)
    refine lv_pop F.1.1 F.1.2.1 dX1_checkData_6 rfl ?_
    refine lv_aload_n F.1.1 F.1.2.1 dX1_checkData_7 rfl (lv_at hl 0 rfl) ?_
    refine lv_iload_n F.1.1 F.1.2.1 dX1_checkData_8 rfl (lv_at hl 1 rfl) ?_
    refine mc_Va (As := [_]) F hM (cs_X1_drive l hd hn hS h_x hd4) (cwV 1 F.1.2.2.2.2 (lw_V q1211 q1213 qs23 q70 q1214) rfl rfl rfl (by decide +kernel) (mRm_ok (by decide) (by decide))) h_x rfl rfl rfl rfl hl.1 rfl (Nat.le_of_ble_eq_true rfl) dX1_checkData_9 ⟨Nat.le_of_ble_eq_true rfl, Nat.le_of_ble_eq_true rfl⟩ (fun H locs hM => ?_)
    refine lv_iload_n F.1.1 F.1.2.1 dX1_checkData_12 rfl (lv_at hl 2 rfl) ?_
    refine mc_Va (As := [_]) F hM (cs_X3_isData_S l htr hd hn hS hd4) (cwV 1 F.1.2.2.2.2 (lw_V q1408 q1409 q1410 q75 q1411) rfl rfl rfl (by decide +kernel) (mRm_ok (by decide) (by decide))) (sq_D hS (by omega)) rfl rfl rfl rfl hl.1 rfl (Nat.le_of_ble_eq_true rfl) dX1_checkData_13 ⟨Nat.le_of_ble_eq_true rfl, Nat.le_of_ble_eq_true rfl⟩ (fun H locs hM => ?_)
    refine mr_ifneN F (tgt := 27) dX1_checkData_16 (by decide) (by omega) (fun c16 => ?_) (fun c16 => ?_)
    · exact absurd c16 (by decide)
    · exact mx_throw0 F hQX htab hM htr (by decide +kernel) q1218 q89 xt_1 xg_1 hl.1 dX1_checkData_19 dX1_checkData_22 dX1_checkData_23 dX1_checkData_26 (Nat.le_of_ble_eq_true rfl) (Nat.le_of_ble_eq_true rfl) (Nat.le_of_ble_eq_true rfl) ⟨(Nat.le_of_ble_eq_true rfl), (Nat.le_of_ble_eq_true rfl)⟩ (Nat.le_of_ble_eq_true rfl) (Nat.le_of_ble_eq_true rfl) ⟨rfl, rfl⟩
  · refine lv_aload_n F.1.1 F.1.2.1 dX1_checkData_0 rfl (lv_at hl 0 rfl) ?_
    refine lv_iload_n F.1.1 F.1.2.1 dX1_checkData_1 rfl (lv_at hl 1 rfl) ?_
    refine lv_iload_n F.1.1 F.1.2.1 dX1_checkData_2 rfl (lv_at hl 2 rfl) ?_
    exact mx_Vn (As := [_, _]) F hM (cx_X1_head l htr hd hn hS h_x hu) (cwV 2 F.1.2.2.2.2 (lw_V q1207 q1209 qs22 q70 q1210) rfl rfl rfl (by decide +kernel) (mRm_ok (by decide) (by decide))) h_x (ci := 0) rfl rfl rfl hl.1 rfl (Nat.le_of_ble_eq_true rfl) dX1_checkData_3 ⟨(Nat.le_of_ble_eq_true rfl), (Nat.le_of_ble_eq_true rfl)⟩ hQX htab (Nat.le_of_ble_eq_true rfl) (Nat.le_of_ble_eq_true rfl) ⟨rfl, rfl⟩
set_option maxHeartbeats 4000000 in
theorem cx_X1_checkReady_1 (l : Launch) (htr : l.stackTraces = false) {G : mG} {ad : Nat → Nat} {n : Nat} {r : Nat → Int32} {f : Nat → UInt32} {dv : Nat → Int32} {M0 : mM} {x : Nat} {v1 v2 v3 : Value} {u w : Int32} (hd : sAd n ad) (hn : n ≤ 6) (hS : sAt G ad n r f dv M0) (h_x : M0 x = some (eO 0 [.ref (ad 0), v1, v2, v3])) (hno : ¬ (inN u 4 ∧ inN w 3)) : mNo l yX1_checkReady (ws_ yX1_checkReady cX1_checkReady 3 none) (mRm 110 8 80) [.ref x, .int u, .int w] G M0 "java/lang/IndexOutOfBoundsException" := by
  refine mMetX.of (by decide +kernel) (Nat.le_of_ble_eq_true rfl) fun p e s m args below meth c A Q M hM0 F hnm hQ hQX htab hM ls hl => ?_
  have hM0 : M0 = M := hM0.symm
  subst hM0
  have hl : lv_has ls 3 [(0, .ref x), (1, .int u), (2, .int w)] := hl
  refine lv_aload_n F.1.1 F.1.2.1 dX1_checkReady_0 rfl (lv_at hl 0 rfl) ?_
  refine lv_iload_n F.1.1 F.1.2.1 dX1_checkReady_1 rfl (lv_at hl 1 rfl) ?_
  refine lv_iload_n F.1.1 F.1.2.1 dX1_checkReady_2 rfl (lv_at hl 2 rfl) ?_
  exact mx_Vn (As := [_, _]) F hM (cx_X1_checkData l htr hd hn hS h_x hno) (cwV 2 F.1.2.2.2.2 (lw_V q1404 q1406 qs30 q70 q1407) rfl rfl rfl (by decide +kernel) (mRm_ok (by decide) (by decide))) h_x (ci := 0) rfl rfl rfl hl.1 rfl (Nat.le_of_ble_eq_true rfl) dX1_checkReady_3 ⟨(Nat.le_of_ble_eq_true rfl), (Nat.le_of_ble_eq_true rfl)⟩ hQX htab (Nat.le_of_ble_eq_true rfl) (Nat.le_of_ble_eq_true rfl) ⟨rfl, rfl⟩
set_option maxHeartbeats 4000000 in
theorem cx_X1_checkReady_2 (l : Launch) (htr : l.stackTraces = false) {G : mG} {ad : Nat → Nat} {n : Nat} {r : Nat → Int32} {f : Nat → UInt32} {dv : Nat → Int32} {M0 : mM} {x : Nat} {v1 v2 v3 : Value} {d h : Nat} (hd : sAd n ad) (hn : n ≤ 6) (hS : sAt G ad n r f dv M0) (h_x : M0 x = some (eO 0 [.ref (ad 0), v1, v2, v3])) (h1 : d < 4) (h2 : h < 3) (hp : r (60 + d) = -1) : mNo l yX1_checkReady (ws_ yX1_checkReady cX1_checkReady 3 none) (mRm 110 8 80) [.ref x, .int (nI d), .int (nI h)] G M0 "java/lang/IllegalStateException" := by
  refine mMetX.of (by decide +kernel) (Nat.le_of_ble_eq_true rfl) fun p e s m args below meth c A Q M hM0 F hnm hQ hQX htab hM ls hl => ?_
  have hM0 : M0 = M := hM0.symm
  subst hM0
  have hl : lv_has ls 3 [(0, .ref x), (1, .int (nI d)), (2, .int (nI h))] := hl
  refine lv_aload_n F.1.1 F.1.2.1 dX1_checkReady_0 rfl (lv_at hl 0 rfl) ?_
  refine lv_iload_n F.1.1 F.1.2.1 dX1_checkReady_1 rfl (lv_at hl 1 rfl) ?_
  refine lv_iload_n F.1.1 F.1.2.1 dX1_checkReady_2 rfl (lv_at hl 2 rfl) ?_
  refine mc_Vv (As := [_, _]) F hM (cs_X1_checkData l hd hn hS h_x h1 h2) (cwV 2 F.1.2.2.2.2 (lw_V q1404 q1406 qs30 q70 q1407) rfl rfl rfl (by decide +kernel) (mRm_ok (by decide) (by decide))) h_x rfl rfl rfl rfl hl.1 rfl (Nat.le_of_ble_eq_true rfl) dX1_checkReady_3 ⟨Nat.le_of_ble_eq_true rfl, Nat.le_of_ble_eq_true rfl⟩ (fun H locs hM => ?_)
  refine lv_aload_n F.1.1 F.1.2.1 dX1_checkReady_6 rfl (lv_at hl 0 rfl) ?_
  refine cg0 F hM h_x 0 (by decide) q385 (fun x h => h) rfl dX1_checkReady_7 ?_
  refine lv_iload_n F.1.1 F.1.2.1 dX1_checkReady_10 rfl (lv_at hl 1 rfl) ?_
  refine mc_Va (As := [_]) F hM (hS.q2 hd (cs_X2_hasPack l hd hn h1)) (cwV 1 F.1.2.2.2.2 (lw_V q1380 q820 q821 q71 q822) rfl rfl rfl (by decide +kernel) (mRm_ok (by decide) (by decide))) (sq_0 hS) rfl rfl rfl rfl hl.1 rfl (Nat.le_of_ble_eq_true rfl) dX1_checkReady_11 ⟨Nat.le_of_ble_eq_true rfl, Nat.le_of_ble_eq_true rfl⟩ (fun H locs hM => ?_)
  exact mx_Sn (As := [_]) F hM (cx_X1_checkState l htr (bI_f (fun q : ¬ r (60 + d) = -1 => q hp))) (va_cwS 1 F.1.2.2.2.2 (lw_S q1313 q1314 q70 q1315) rfl rfl rfl (by decide +kernel) (mRm_ok (by decide) (by decide))) rfl hl.1 rfl (Nat.le_of_ble_eq_true rfl) dX1_checkReady_14 ⟨(Nat.le_of_ble_eq_true rfl), (Nat.le_of_ble_eq_true rfl)⟩ hQX htab (Nat.le_of_ble_eq_true rfl) (Nat.le_of_ble_eq_true rfl) ⟨rfl, rfl⟩
set_option maxHeartbeats 4000000 in
theorem cs_X1_offsetOf_D (l : Launch) {G : mG} {ad : Nat → Nat} {n : Nat} {r : Nat → Int32} {f : Nat → UInt32} {dv : Nat → Int32} {M0 : mM} {x : Nat} {v1 v2 v3 : Value} {d h : Nat} (hd : sAd n ad) (hn : n ≤ 6) (hS : sAt G ad n r f dv M0) (h_x : M0 x = some (eO 0 [.ref (ad 0), v1, v2, v3])) (h1 : d < 4) (h2 : h < 3) : mMet l yX1_offsetOf (ws_ yX1_offsetOf cX1_offsetOf 3 (some .int)) (mRm 9 0 0) [.ref x, .int (nI d), .int (nI h)] G (pPre M0) (pPost M0 (some (.int (r (0 + (4 * d + h)))))) := by
  refine mMet.of (by decide +kernel) (Nat.le_of_ble_eq_true rfl) fun p e s m args below meth c A Q M hM0 F hnm hQ hM ls hl => ?_
  have hM0 : M0 = M := hM0.symm
  subst hM0
  have hl : lv_has ls 3 [(0, .ref x), (1, .int (nI d)), (2, .int (nI h))] := hl
  refine lv_aload_n F.1.1 F.1.2.1 dX1_offsetOf_0 rfl (lv_at hl 0 rfl) ?_
  refine lv_iload_n F.1.1 F.1.2.1 dX1_offsetOf_1 rfl (lv_at hl 1 rfl) ?_
  refine lv_iload_n F.1.1 F.1.2.1 dX1_offsetOf_2 rfl (lv_at hl 2 rfl) ?_
  refine mc_Va (As := [_, _]) F hM (cs_X1_head_D l hd hn hS h_x h1 h2) (cwV 2 F.1.2.2.2.2 (lw_V q1207 q1209 qs22 q70 q1210) rfl rfl rfl (by decide +kernel) (mRm_ok (by decide) (by decide))) h_x rfl rfl rfl rfl hl.1 rfl (Nat.le_of_ble_eq_true rfl) dX1_offsetOf_3 ⟨Nat.le_of_ble_eq_true rfl, Nat.le_of_ble_eq_true rfl⟩ (fun H locs hM => ?_)
  refine cg4 F hM (sq_HD hS (by omega) (by omega)) 0 (by decide) q168 (fun x h => h) rfl dX1_offsetOf_6 ?_
  exact mr_iret F hQ hM ⟨rfl, rfl⟩ (Nat.le_of_ble_eq_true rfl) (Nat.le_of_ble_eq_true rfl) dX1_offsetOf_9
set_option maxHeartbeats 4000000 in
theorem cs_X1_offsetOf_S (l : Launch) {G : mG} {ad : Nat → Nat} {n : Nat} {r : Nat → Int32} {f : Nat → UInt32} {dv : Nat → Int32} {M0 : mM} {x : Nat} {v1 v2 v3 : Value} {d : Nat} (hd : sAd n ad) (hn : n ≤ 6) (hS : sAt G ad n r f dv M0) (h_x : M0 x = some (eO 0 [.ref (ad 0), v1, v2, v3])) (h1 : d < 4) : mMet l yX1_offsetOf (ws_ yX1_offsetOf cX1_offsetOf 3 (some .int)) (mRm 9 0 0) [.ref x, .int (nI d), .int (nI 3)] G (pPre M0) (pPost M0 (some (.int (r (0 + (4 * d + 3)))))) := by
  refine mMet.of (by decide +kernel) (Nat.le_of_ble_eq_true rfl) fun p e s m args below meth c A Q M hM0 F hnm hQ hM ls hl => ?_
  have hM0 : M0 = M := hM0.symm
  subst hM0
  have hl : lv_has ls 3 [(0, .ref x), (1, .int (nI d)), (2, .int (nI 3))] := hl
  refine lv_aload_n F.1.1 F.1.2.1 dX1_offsetOf_0 rfl (lv_at hl 0 rfl) ?_
  refine lv_iload_n F.1.1 F.1.2.1 dX1_offsetOf_1 rfl (lv_at hl 1 rfl) ?_
  refine lv_iload_n F.1.1 F.1.2.1 dX1_offsetOf_2 rfl (lv_at hl 2 rfl) ?_
  refine mc_Va (As := [_, _]) F hM (cs_X1_head_S l hd hn hS h_x h1) (cwV 2 F.1.2.2.2.2 (lw_V q1207 q1209 qs22 q70 q1210) rfl rfl rfl (by decide +kernel) (mRm_ok (by decide) (by decide))) h_x rfl rfl rfl rfl hl.1 rfl (Nat.le_of_ble_eq_true rfl) dX1_offsetOf_3 ⟨Nat.le_of_ble_eq_true rfl, Nat.le_of_ble_eq_true rfl⟩ (fun H locs hM => ?_)
  refine cg3 F hM (sq_HS hS (by omega)) 0 (by decide) q168 (fun x h => h) rfl dX1_offsetOf_6 ?_
  exact mr_iret F hQ hM ⟨rfl, rfl⟩ (Nat.le_of_ble_eq_true rfl) (Nat.le_of_ble_eq_true rfl) dX1_offsetOf_9
set_option maxHeartbeats 4000000 in
theorem cx_X1_offsetOf (l : Launch) (htr : l.stackTraces = false) {G : mG} {ad : Nat → Nat} {n : Nat} {r : Nat → Int32} {f : Nat → UInt32} {dv : Nat → Int32} {M0 : mM} {x : Nat} {v1 v2 v3 : Value} {u w : Int32} (hd : sAd n ad) (hn : n ≤ 6) (hS : sAt G ad n r f dv M0) (h_x : M0 x = some (eO 0 [.ref (ad 0), v1, v2, v3])) (hno : ¬ (inN u 4 ∧ inN w 4)) : mNo l yX1_offsetOf (ws_ yX1_offsetOf cX1_offsetOf 3 (some .int)) (mRm 109 20 200) [.ref x, .int u, .int w] G M0 "java/lang/IndexOutOfBoundsException" := by
  refine mMetX.of (by decide +kernel) (Nat.le_of_ble_eq_true rfl) fun p e s m args below meth c A Q M hM0 F hnm hQ hQX htab hM ls hl => ?_
  have hM0 : M0 = M := hM0.symm
  subst hM0
  have hl : lv_has ls 3 [(0, .ref x), (1, .int u), (2, .int w)] := hl
  refine lv_aload_n F.1.1 F.1.2.1 dX1_offsetOf_0 rfl (lv_at hl 0 rfl) ?_
  refine lv_iload_n F.1.1 F.1.2.1 dX1_offsetOf_1 rfl (lv_at hl 1 rfl) ?_
  refine lv_iload_n F.1.1 F.1.2.1 dX1_offsetOf_2 rfl (lv_at hl 2 rfl) ?_
  exact mx_Vn (As := [_, _]) F hM (cx_X1_head l htr hd hn hS h_x hno) (cwV 2 F.1.2.2.2.2 (lw_V q1207 q1209 qs22 q70 q1210) rfl rfl rfl (by decide +kernel) (mRm_ok (by decide) (by decide))) h_x (ci := 0) rfl rfl rfl hl.1 rfl (Nat.le_of_ble_eq_true rfl) dX1_offsetOf_3 ⟨(Nat.le_of_ble_eq_true rfl), (Nat.le_of_ble_eq_true rfl)⟩ hQX htab (Nat.le_of_ble_eq_true rfl) (Nat.le_of_ble_eq_true rfl) ⟨rfl, rfl⟩
set_option maxHeartbeats 4000000 in
theorem cs_X1_isStruck_D (l : Launch) {G : mG} {ad : Nat → Nat} {n : Nat} {r : Nat → Int32} {f : Nat → UInt32} {dv : Nat → Int32} {M0 : mM} {x : Nat} {v1 v2 v3 : Value} {d h : Nat} (hd : sAd n ad) (hn : n ≤ 6) (hS : sAt G ad n r f dv M0) (h_x : M0 x = some (eO 0 [.ref (ad 0), v1, v2, v3])) (h1 : d < 4) (h2 : h < 3) (hst : r (16 + (4 * d + h)) = nI 0 ∨ r (16 + (4 * d + h)) = nI 1) : mMet l yX1_isStruck (ws_ yX1_isStruck cX1_isStruck 3 (some .boolean)) (mRm 9 0 0) [.ref x, .int (nI d), .int (nI h)] G (pPre M0) (pPost M0 (some (.int (r (16 + (4 * d + h)))))) := by
  refine mMet.of (by decide +kernel) (Nat.le_of_ble_eq_true rfl) fun p e s m args below meth c A Q M hM0 F hnm hQ hM ls hl => ?_
  have hM0 : M0 = M := hM0.symm
  subst hM0
  have hl : lv_has ls 3 [(0, .ref x), (1, .int (nI d)), (2, .int (nI h))] := hl
  refine lv_aload_n F.1.1 F.1.2.1 dX1_isStruck_0 rfl (lv_at hl 0 rfl) ?_
  refine lv_iload_n F.1.1 F.1.2.1 dX1_isStruck_1 rfl (lv_at hl 1 rfl) ?_
  refine lv_iload_n F.1.1 F.1.2.1 dX1_isStruck_2 rfl (lv_at hl 2 rfl) ?_
  refine mc_Va (As := [_, _]) F hM (cs_X1_head_D l hd hn hS h_x h1 h2) (cwV 2 F.1.2.2.2.2 (lw_V q1207 q1209 qs22 q70 q1210) rfl rfl rfl (by decide +kernel) (mRm_ok (by decide) (by decide))) h_x rfl rfl rfl rfl hl.1 rfl (Nat.le_of_ble_eq_true rfl) dX1_isStruck_3 ⟨Nat.le_of_ble_eq_true rfl, Nat.le_of_ble_eq_true rfl⟩ (fun H locs hM => ?_)
  refine cg4 F hM (sq_HD hS (by omega) (by omega)) 1 (by decide) q173 (fun x h => h) rfl dX1_isStruck_6 ?_
  exact mr_zret F hQ (by rcases hst with e | e <;> rw [e] <;> rfl) hM ⟨rfl, rfl⟩ (Nat.le_of_ble_eq_true rfl) (Nat.le_of_ble_eq_true rfl) dX1_isStruck_9
set_option maxHeartbeats 4000000 in
theorem cs_X1_isStruck_S (l : Launch) {G : mG} {ad : Nat → Nat} {n : Nat} {r : Nat → Int32} {f : Nat → UInt32} {dv : Nat → Int32} {M0 : mM} {x : Nat} {v1 v2 v3 : Value} {d : Nat} (hd : sAd n ad) (hn : n ≤ 6) (hS : sAt G ad n r f dv M0) (h_x : M0 x = some (eO 0 [.ref (ad 0), v1, v2, v3])) (h1 : d < 4) (hst : r (16 + (4 * d + 3)) = nI 0 ∨ r (16 + (4 * d + 3)) = nI 1) : mMet l yX1_isStruck (ws_ yX1_isStruck cX1_isStruck 3 (some .boolean)) (mRm 9 0 0) [.ref x, .int (nI d), .int (nI 3)] G (pPre M0) (pPost M0 (some (.int (r (16 + (4 * d + 3)))))) := by
  refine mMet.of (by decide +kernel) (Nat.le_of_ble_eq_true rfl) fun p e s m args below meth c A Q M hM0 F hnm hQ hM ls hl => ?_
  have hM0 : M0 = M := hM0.symm
  subst hM0
  have hl : lv_has ls 3 [(0, .ref x), (1, .int (nI d)), (2, .int (nI 3))] := hl
  refine lv_aload_n F.1.1 F.1.2.1 dX1_isStruck_0 rfl (lv_at hl 0 rfl) ?_
  refine lv_iload_n F.1.1 F.1.2.1 dX1_isStruck_1 rfl (lv_at hl 1 rfl) ?_
  refine lv_iload_n F.1.1 F.1.2.1 dX1_isStruck_2 rfl (lv_at hl 2 rfl) ?_
  refine mc_Va (As := [_, _]) F hM (cs_X1_head_S l hd hn hS h_x h1) (cwV 2 F.1.2.2.2.2 (lw_V q1207 q1209 qs22 q70 q1210) rfl rfl rfl (by decide +kernel) (mRm_ok (by decide) (by decide))) h_x rfl rfl rfl rfl hl.1 rfl (Nat.le_of_ble_eq_true rfl) dX1_isStruck_3 ⟨Nat.le_of_ble_eq_true rfl, Nat.le_of_ble_eq_true rfl⟩ (fun H locs hM => ?_)
  refine cg3 F hM (sq_HS hS (by omega)) 1 (by decide) q173 (fun x h => h) rfl dX1_isStruck_6 ?_
  exact mr_zret F hQ (by rcases hst with e | e <;> rw [e] <;> rfl) hM ⟨rfl, rfl⟩ (Nat.le_of_ble_eq_true rfl) (Nat.le_of_ble_eq_true rfl) dX1_isStruck_9
set_option maxHeartbeats 4000000 in
theorem cx_X1_isStruck (l : Launch) (htr : l.stackTraces = false) {G : mG} {ad : Nat → Nat} {n : Nat} {r : Nat → Int32} {f : Nat → UInt32} {dv : Nat → Int32} {M0 : mM} {x : Nat} {v1 v2 v3 : Value} {u w : Int32} (hd : sAd n ad) (hn : n ≤ 6) (hS : sAt G ad n r f dv M0) (h_x : M0 x = some (eO 0 [.ref (ad 0), v1, v2, v3])) (hno : ¬ (inN u 4 ∧ inN w 4)) : mNo l yX1_isStruck (ws_ yX1_isStruck cX1_isStruck 3 (some .boolean)) (mRm 109 20 200) [.ref x, .int u, .int w] G M0 "java/lang/IndexOutOfBoundsException" := by
  refine mMetX.of (by decide +kernel) (Nat.le_of_ble_eq_true rfl) fun p e s m args below meth c A Q M hM0 F hnm hQ hQX htab hM ls hl => ?_
  have hM0 : M0 = M := hM0.symm
  subst hM0
  have hl : lv_has ls 3 [(0, .ref x), (1, .int u), (2, .int w)] := hl
  refine lv_aload_n F.1.1 F.1.2.1 dX1_isStruck_0 rfl (lv_at hl 0 rfl) ?_
  refine lv_iload_n F.1.1 F.1.2.1 dX1_isStruck_1 rfl (lv_at hl 1 rfl) ?_
  refine lv_iload_n F.1.1 F.1.2.1 dX1_isStruck_2 rfl (lv_at hl 2 rfl) ?_
  exact mx_Vn (As := [_, _]) F hM (cx_X1_head l htr hd hn hS h_x hno) (cwV 2 F.1.2.2.2.2 (lw_V q1207 q1209 qs22 q70 q1210) rfl rfl rfl (by decide +kernel) (mRm_ok (by decide) (by decide))) h_x (ci := 0) rfl rfl rfl hl.1 rfl (Nat.le_of_ble_eq_true rfl) dX1_isStruck_3 ⟨(Nat.le_of_ble_eq_true rfl), (Nat.le_of_ble_eq_true rfl)⟩ hQX htab (Nat.le_of_ble_eq_true rfl) (Nat.le_of_ble_eq_true rfl) ⟨rfl, rfl⟩
set_option maxHeartbeats 4000000 in
theorem cs_X1_badPassesOf_D (l : Launch) {G : mG} {ad : Nat → Nat} {n : Nat} {r : Nat → Int32} {f : Nat → UInt32} {dv : Nat → Int32} {M0 : mM} {x : Nat} {v1 v2 v3 : Value} {d h : Nat} (hd : sAd n ad) (hn : n ≤ 6) (hS : sAt G ad n r f dv M0) (h_x : M0 x = some (eO 0 [.ref (ad 0), v1, v2, v3])) (h1 : d < 4) (h2 : h < 3) : mMet l yX1_badPassesOf (ws_ yX1_badPassesOf cX1_badPassesOf 3 (some .int)) (mRm 9 0 0) [.ref x, .int (nI d), .int (nI h)] G (pPre M0) (pPost M0 (some (.int (r (32 + (4 * d + h)))))) := by
  refine mMet.of (by decide +kernel) (Nat.le_of_ble_eq_true rfl) fun p e s m args below meth c A Q M hM0 F hnm hQ hM ls hl => ?_
  have hM0 : M0 = M := hM0.symm
  subst hM0
  have hl : lv_has ls 3 [(0, .ref x), (1, .int (nI d)), (2, .int (nI h))] := hl
  refine lv_aload_n F.1.1 F.1.2.1 dX1_badPassesOf_0 rfl (lv_at hl 0 rfl) ?_
  refine lv_iload_n F.1.1 F.1.2.1 dX1_badPassesOf_1 rfl (lv_at hl 1 rfl) ?_
  refine lv_iload_n F.1.1 F.1.2.1 dX1_badPassesOf_2 rfl (lv_at hl 2 rfl) ?_
  refine mc_Va (As := [_, _]) F hM (cs_X1_head_D l hd hn hS h_x h1 h2) (cwV 2 F.1.2.2.2.2 (lw_V q1207 q1209 qs22 q70 q1210) rfl rfl rfl (by decide +kernel) (mRm_ok (by decide) (by decide))) h_x rfl rfl rfl rfl hl.1 rfl (Nat.le_of_ble_eq_true rfl) dX1_badPassesOf_3 ⟨Nat.le_of_ble_eq_true rfl, Nat.le_of_ble_eq_true rfl⟩ (fun H locs hM => ?_)
  refine cg4 F hM (sq_HD hS (by omega) (by omega)) 2 (by decide) q178 (fun x h => h) rfl dX1_badPassesOf_6 ?_
  exact mr_iret F hQ hM ⟨rfl, rfl⟩ (Nat.le_of_ble_eq_true rfl) (Nat.le_of_ble_eq_true rfl) dX1_badPassesOf_9
set_option maxHeartbeats 4000000 in
theorem cs_X1_badPassesOf_S (l : Launch) {G : mG} {ad : Nat → Nat} {n : Nat} {r : Nat → Int32} {f : Nat → UInt32} {dv : Nat → Int32} {M0 : mM} {x : Nat} {v1 v2 v3 : Value} {d : Nat} (hd : sAd n ad) (hn : n ≤ 6) (hS : sAt G ad n r f dv M0) (h_x : M0 x = some (eO 0 [.ref (ad 0), v1, v2, v3])) (h1 : d < 4) : mMet l yX1_badPassesOf (ws_ yX1_badPassesOf cX1_badPassesOf 3 (some .int)) (mRm 9 0 0) [.ref x, .int (nI d), .int (nI 3)] G (pPre M0) (pPost M0 (some (.int (r (32 + (4 * d + 3)))))) := by
  refine mMet.of (by decide +kernel) (Nat.le_of_ble_eq_true rfl) fun p e s m args below meth c A Q M hM0 F hnm hQ hM ls hl => ?_
  have hM0 : M0 = M := hM0.symm
  subst hM0
  have hl : lv_has ls 3 [(0, .ref x), (1, .int (nI d)), (2, .int (nI 3))] := hl
  refine lv_aload_n F.1.1 F.1.2.1 dX1_badPassesOf_0 rfl (lv_at hl 0 rfl) ?_
  refine lv_iload_n F.1.1 F.1.2.1 dX1_badPassesOf_1 rfl (lv_at hl 1 rfl) ?_
  refine lv_iload_n F.1.1 F.1.2.1 dX1_badPassesOf_2 rfl (lv_at hl 2 rfl) ?_
  refine mc_Va (As := [_, _]) F hM (cs_X1_head_S l hd hn hS h_x h1) (cwV 2 F.1.2.2.2.2 (lw_V q1207 q1209 qs22 q70 q1210) rfl rfl rfl (by decide +kernel) (mRm_ok (by decide) (by decide))) h_x rfl rfl rfl rfl hl.1 rfl (Nat.le_of_ble_eq_true rfl) dX1_badPassesOf_3 ⟨Nat.le_of_ble_eq_true rfl, Nat.le_of_ble_eq_true rfl⟩ (fun H locs hM => ?_)
  refine cg3 F hM (sq_HS hS (by omega)) 2 (by decide) q178 (fun x h => h) rfl dX1_badPassesOf_6 ?_
  exact mr_iret F hQ hM ⟨rfl, rfl⟩ (Nat.le_of_ble_eq_true rfl) (Nat.le_of_ble_eq_true rfl) dX1_badPassesOf_9
set_option maxHeartbeats 4000000 in
theorem cx_X1_badPassesOf (l : Launch) (htr : l.stackTraces = false) {G : mG} {ad : Nat → Nat} {n : Nat} {r : Nat → Int32} {f : Nat → UInt32} {dv : Nat → Int32} {M0 : mM} {x : Nat} {v1 v2 v3 : Value} {u w : Int32} (hd : sAd n ad) (hn : n ≤ 6) (hS : sAt G ad n r f dv M0) (h_x : M0 x = some (eO 0 [.ref (ad 0), v1, v2, v3])) (hno : ¬ (inN u 4 ∧ inN w 4)) : mNo l yX1_badPassesOf (ws_ yX1_badPassesOf cX1_badPassesOf 3 (some .int)) (mRm 109 20 200) [.ref x, .int u, .int w] G M0 "java/lang/IndexOutOfBoundsException" := by
  refine mMetX.of (by decide +kernel) (Nat.le_of_ble_eq_true rfl) fun p e s m args below meth c A Q M hM0 F hnm hQ hQX htab hM ls hl => ?_
  have hM0 : M0 = M := hM0.symm
  subst hM0
  have hl : lv_has ls 3 [(0, .ref x), (1, .int u), (2, .int w)] := hl
  refine lv_aload_n F.1.1 F.1.2.1 dX1_badPassesOf_0 rfl (lv_at hl 0 rfl) ?_
  refine lv_iload_n F.1.1 F.1.2.1 dX1_badPassesOf_1 rfl (lv_at hl 1 rfl) ?_
  refine lv_iload_n F.1.1 F.1.2.1 dX1_badPassesOf_2 rfl (lv_at hl 2 rfl) ?_
  exact mx_Vn (As := [_, _]) F hM (cx_X1_head l htr hd hn hS h_x hno) (cwV 2 F.1.2.2.2.2 (lw_V q1207 q1209 qs22 q70 q1210) rfl rfl rfl (by decide +kernel) (mRm_ok (by decide) (by decide))) h_x (ci := 0) rfl rfl rfl hl.1 rfl (Nat.le_of_ble_eq_true rfl) dX1_badPassesOf_3 ⟨(Nat.le_of_ble_eq_true rfl), (Nat.le_of_ble_eq_true rfl)⟩ hQX htab (Nat.le_of_ble_eq_true rfl) (Nat.le_of_ble_eq_true rfl) ⟨rfl, rfl⟩
set_option maxHeartbeats 4000000 in
theorem cs_X1_warmthOf (l : Launch) {G : mG} {ad : Nat → Nat} {n : Nat} {r : Nat → Int32} {f : Nat → UInt32} {dv : Nat → Int32} {M0 : mM} {x : Nat} {v1 v2 v3 : Value} {d : Nat} (hd : sAd n ad) (hn : n ≤ 6) (hS : sAt G ad n r f dv M0) (h_x : M0 x = some (eO 0 [.ref (ad 0), v1, v2, v3])) (h1 : d < 4) : mMet l yX1_warmthOf (ws_ yX1_warmthOf cX1_warmthOf 2 (some .int)) (mRm 8 0 0) [.ref x, .int (nI d)] G (pPre M0) (pPost M0 (some (.int (r (48 + d))))) := by
  refine mMet.of (by decide +kernel) (Nat.le_of_ble_eq_true rfl) fun p e s m args below meth c A Q M hM0 F hnm hQ hM ls hl => ?_
  have hM0 : M0 = M := hM0.symm
  subst hM0
  have hl : lv_has ls 2 [(0, .ref x), (1, .int (nI d))] := hl
  refine lv_aload_n F.1.1 F.1.2.1 dX1_warmthOf_0 rfl (lv_at hl 0 rfl) ?_
  refine lv_iload_n F.1.1 F.1.2.1 dX1_warmthOf_1 rfl (lv_at hl 1 rfl) ?_
  refine mc_Va (As := [_]) F hM (cs_X1_drive l hd hn hS h_x h1) (cwV 1 F.1.2.2.2.2 (lw_V q1211 q1213 qs23 q70 q1214) rfl rfl rfl (by decide +kernel) (mRm_ok (by decide) (by decide))) h_x rfl rfl rfl rfl hl.1 rfl (Nat.le_of_ble_eq_true rfl) dX1_warmthOf_2 ⟨Nat.le_of_ble_eq_true rfl, Nat.le_of_ble_eq_true rfl⟩ (fun H locs hM => ?_)
  refine cg2 F hM (sq_D hS (by omega)) 3 (by decide) q281 (fun x h => h) rfl dX1_warmthOf_5 ?_
  exact mr_iret F hQ hM ⟨rfl, rfl⟩ (Nat.le_of_ble_eq_true rfl) (Nat.le_of_ble_eq_true rfl) dX1_warmthOf_8
set_option maxHeartbeats 4000000 in
theorem cx_X1_warmthOf (l : Launch) (htr : l.stackTraces = false) {G : mG} {ad : Nat → Nat} {n : Nat} {r : Nat → Int32} {f : Nat → UInt32} {dv : Nat → Int32} {M0 : mM} {x : Nat} {v1 v2 v3 : Value} {u : Int32} (hd : sAd n ad) (hn : n ≤ 6) (hS : sAt G ad n r f dv M0) (h_x : M0 x = some (eO 0 [.ref (ad 0), v1, v2, v3])) (hno : ¬ inN u 4) : mNo l yX1_warmthOf (ws_ yX1_warmthOf cX1_warmthOf 2 (some .int)) (mRm 108 20 200) [.ref x, .int u] G M0 "java/lang/IndexOutOfBoundsException" := by
  refine mMetX.of (by decide +kernel) (Nat.le_of_ble_eq_true rfl) fun p e s m args below meth c A Q M hM0 F hnm hQ hQX htab hM ls hl => ?_
  have hM0 : M0 = M := hM0.symm
  subst hM0
  have hl : lv_has ls 2 [(0, .ref x), (1, .int u)] := hl
  refine lv_aload_n F.1.1 F.1.2.1 dX1_warmthOf_0 rfl (lv_at hl 0 rfl) ?_
  refine lv_iload_n F.1.1 F.1.2.1 dX1_warmthOf_1 rfl (lv_at hl 1 rfl) ?_
  exact mx_Vn (As := [_]) F hM (cx_X1_drive l htr hd hn hS h_x hno) (cwV 1 F.1.2.2.2.2 (lw_V q1211 q1213 qs23 q70 q1214) rfl rfl rfl (by decide +kernel) (mRm_ok (by decide) (by decide))) h_x (ci := 0) rfl rfl rfl hl.1 rfl (Nat.le_of_ble_eq_true rfl) dX1_warmthOf_2 ⟨(Nat.le_of_ble_eq_true rfl), (Nat.le_of_ble_eq_true rfl)⟩ hQX htab (Nat.le_of_ble_eq_true rfl) (Nat.le_of_ble_eq_true rfl) ⟨rfl, rfl⟩
set_option maxHeartbeats 4000000 in
theorem cs_X1_cylinderOf (l : Launch) {G : mG} {ad : Nat → Nat} {n : Nat} {r : Nat → Int32} {f : Nat → UInt32} {dv : Nat → Int32} {M0 : mM} {x : Nat} {v1 v2 v3 : Value} {d : Nat} (hd : sAd n ad) (hn : n ≤ 6) (hS : sAt G ad n r f dv M0) (h_x : M0 x = some (eO 0 [.ref (ad 0), v1, v2, v3])) (h1 : d < 4) : mMet l yX1_cylinderOf (ws_ yX1_cylinderOf cX1_cylinderOf 2 (some .int)) (mRm 8 0 0) [.ref x, .int (nI d)] G (pPre M0) (pPost M0 (some (.int (r (52 + d))))) := by
  refine mMet.of (by decide +kernel) (Nat.le_of_ble_eq_true rfl) fun p e s m args below meth c A Q M hM0 F hnm hQ hM ls hl => ?_
  have hM0 : M0 = M := hM0.symm
  subst hM0
  have hl : lv_has ls 2 [(0, .ref x), (1, .int (nI d))] := hl
  refine lv_aload_n F.1.1 F.1.2.1 dX1_cylinderOf_0 rfl (lv_at hl 0 rfl) ?_
  refine lv_iload_n F.1.1 F.1.2.1 dX1_cylinderOf_1 rfl (lv_at hl 1 rfl) ?_
  refine mc_Va (As := [_]) F hM (cs_X1_drive l hd hn hS h_x h1) (cwV 1 F.1.2.2.2.2 (lw_V q1211 q1213 qs23 q70 q1214) rfl rfl rfl (by decide +kernel) (mRm_ok (by decide) (by decide))) h_x rfl rfl rfl rfl hl.1 rfl (Nat.le_of_ble_eq_true rfl) dX1_cylinderOf_2 ⟨Nat.le_of_ble_eq_true rfl, Nat.le_of_ble_eq_true rfl⟩ (fun H locs hM => ?_)
  refine cg2 F hM (sq_D hS (by omega)) 4 (by decide) q284 (fun x h => h) rfl dX1_cylinderOf_5 ?_
  exact mr_iret F hQ hM ⟨rfl, rfl⟩ (Nat.le_of_ble_eq_true rfl) (Nat.le_of_ble_eq_true rfl) dX1_cylinderOf_8
set_option maxHeartbeats 4000000 in
theorem cx_X1_cylinderOf (l : Launch) (htr : l.stackTraces = false) {G : mG} {ad : Nat → Nat} {n : Nat} {r : Nat → Int32} {f : Nat → UInt32} {dv : Nat → Int32} {M0 : mM} {x : Nat} {v1 v2 v3 : Value} {u : Int32} (hd : sAd n ad) (hn : n ≤ 6) (hS : sAt G ad n r f dv M0) (h_x : M0 x = some (eO 0 [.ref (ad 0), v1, v2, v3])) (hno : ¬ inN u 4) : mNo l yX1_cylinderOf (ws_ yX1_cylinderOf cX1_cylinderOf 2 (some .int)) (mRm 108 20 200) [.ref x, .int u] G M0 "java/lang/IndexOutOfBoundsException" := by
  refine mMetX.of (by decide +kernel) (Nat.le_of_ble_eq_true rfl) fun p e s m args below meth c A Q M hM0 F hnm hQ hQX htab hM ls hl => ?_
  have hM0 : M0 = M := hM0.symm
  subst hM0
  have hl : lv_has ls 2 [(0, .ref x), (1, .int u)] := hl
  refine lv_aload_n F.1.1 F.1.2.1 dX1_cylinderOf_0 rfl (lv_at hl 0 rfl) ?_
  refine lv_iload_n F.1.1 F.1.2.1 dX1_cylinderOf_1 rfl (lv_at hl 1 rfl) ?_
  exact mx_Vn (As := [_]) F hM (cx_X1_drive l htr hd hn hS h_x hno) (cwV 1 F.1.2.2.2.2 (lw_V q1211 q1213 qs23 q70 q1214) rfl rfl rfl (by decide +kernel) (mRm_ok (by decide) (by decide))) h_x (ci := 0) rfl rfl rfl hl.1 rfl (Nat.le_of_ble_eq_true rfl) dX1_cylinderOf_2 ⟨(Nat.le_of_ble_eq_true rfl), (Nat.le_of_ble_eq_true rfl)⟩ hQX htab (Nat.le_of_ble_eq_true rfl) (Nat.le_of_ble_eq_true rfl) ⟨rfl, rfl⟩
set_option maxHeartbeats 4000000 in
theorem cs_X1_packIn (l : Launch) {G : mG} {ad : Nat → Nat} {n : Nat} {r : Nat → Int32} {f : Nat → UInt32} {dv : Nat → Int32} {M0 : mM} {x : Nat} {v1 v2 v3 : Value} {d : Nat} (hd : sAd n ad) (hn : n ≤ 6) (hS : sAt G ad n r f dv M0) (h_x : M0 x = some (eO 0 [.ref (ad 0), v1, v2, v3])) (h1 : d < 4) : mMet l yX1_packIn (ws_ yX1_packIn cX1_packIn 2 (some .int)) (mRm 8 0 0) [.ref x, .int (nI d)] G (pPre M0) (pPost M0 (some (.int (r (60 + d))))) := by
  refine mMet.of (by decide +kernel) (Nat.le_of_ble_eq_true rfl) fun p e s m args below meth c A Q M hM0 F hnm hQ hM ls hl => ?_
  have hM0 : M0 = M := hM0.symm
  subst hM0
  have hl : lv_has ls 2 [(0, .ref x), (1, .int (nI d))] := hl
  refine lv_aload_n F.1.1 F.1.2.1 dX1_packIn_0 rfl (lv_at hl 0 rfl) ?_
  refine lv_iload_n F.1.1 F.1.2.1 dX1_packIn_1 rfl (lv_at hl 1 rfl) ?_
  refine mc_Va (As := [_]) F hM (cs_X1_drive l hd hn hS h_x h1) (cwV 1 F.1.2.2.2.2 (lw_V q1211 q1213 qs23 q70 q1214) rfl rfl rfl (by decide +kernel) (mRm_ok (by decide) (by decide))) h_x rfl rfl rfl rfl hl.1 rfl (Nat.le_of_ble_eq_true rfl) dX1_packIn_2 ⟨Nat.le_of_ble_eq_true rfl, Nat.le_of_ble_eq_true rfl⟩ (fun H locs hM => ?_)
  refine cg2 F hM (sq_D hS (by omega)) 6 (by decide) q290 (fun x h => h) rfl dX1_packIn_5 ?_
  exact mr_iret F hQ hM ⟨rfl, rfl⟩ (Nat.le_of_ble_eq_true rfl) (Nat.le_of_ble_eq_true rfl) dX1_packIn_8
set_option maxHeartbeats 4000000 in
theorem cx_X1_packIn (l : Launch) (htr : l.stackTraces = false) {G : mG} {ad : Nat → Nat} {n : Nat} {r : Nat → Int32} {f : Nat → UInt32} {dv : Nat → Int32} {M0 : mM} {x : Nat} {v1 v2 v3 : Value} {u : Int32} (hd : sAd n ad) (hn : n ≤ 6) (hS : sAt G ad n r f dv M0) (h_x : M0 x = some (eO 0 [.ref (ad 0), v1, v2, v3])) (hno : ¬ inN u 4) : mNo l yX1_packIn (ws_ yX1_packIn cX1_packIn 2 (some .int)) (mRm 108 20 200) [.ref x, .int u] G M0 "java/lang/IndexOutOfBoundsException" := by
  refine mMetX.of (by decide +kernel) (Nat.le_of_ble_eq_true rfl) fun p e s m args below meth c A Q M hM0 F hnm hQ hQX htab hM ls hl => ?_
  have hM0 : M0 = M := hM0.symm
  subst hM0
  have hl : lv_has ls 2 [(0, .ref x), (1, .int u)] := hl
  refine lv_aload_n F.1.1 F.1.2.1 dX1_packIn_0 rfl (lv_at hl 0 rfl) ?_
  refine lv_iload_n F.1.1 F.1.2.1 dX1_packIn_1 rfl (lv_at hl 1 rfl) ?_
  exact mx_Vn (As := [_]) F hM (cx_X1_drive l htr hd hn hS h_x hno) (cwV 1 F.1.2.2.2.2 (lw_V q1211 q1213 qs23 q70 q1214) rfl rfl rfl (by decide +kernel) (mRm_ok (by decide) (by decide))) h_x (ci := 0) rfl rfl rfl hl.1 rfl (Nat.le_of_ble_eq_true rfl) dX1_packIn_2 ⟨(Nat.le_of_ble_eq_true rfl), (Nat.le_of_ble_eq_true rfl)⟩ hQX htab (Nat.le_of_ble_eq_true rfl) (Nat.le_of_ble_eq_true rfl) ⟨rfl, rfl⟩
set_option maxHeartbeats 4000000 in
theorem cs_X1_learned (l : Launch) {G : mG} {ad : Nat → Nat} {n : Nat} {r : Nat → Int32} {f : Nat → UInt32} {dv : Nat → Int32} {M0 : mM} {x : Nat} {v1 v2 v3 : Value} {d k : Nat} (hd : sAd n ad) (hn : n ≤ 6) (hS : sAt G ad n r f dv M0) (h_x : M0 x = some (eO 0 [.ref (ad 0), v1, v2, v3])) (h1 : d < 4) (h3 : k < n) : mMet l yX1_learned (ws_ yX1_learned cX1_learned 3 (some .int)) (mRm 8 0 0) [.ref x, .int (nI d), .int (nI k)] G (pPre M0) (pPost M0 (some (.int (r (64 + 6 * d + k))))) := by
  refine mMet.of (by decide +kernel) (Nat.le_of_ble_eq_true rfl) fun p e s m args below meth c A Q M hM0 F hnm hQ hM ls hl => ?_
  have hM0 : M0 = M := hM0.symm
  subst hM0
  have hl : lv_has ls 3 [(0, .ref x), (1, .int (nI d)), (2, .int (nI k))] := hl
  refine lv_aload_n F.1.1 F.1.2.1 dX1_learned_0 rfl (lv_at hl 0 rfl) ?_
  refine lv_iload_n F.1.1 F.1.2.1 dX1_learned_1 rfl (lv_at hl 1 rfl) ?_
  refine mc_Va (As := [_]) F hM (cs_X1_drive l hd hn hS h_x h1) (cwV 1 F.1.2.2.2.2 (lw_V q1211 q1213 qs23 q70 q1214) rfl rfl rfl (by decide +kernel) (mRm_ok (by decide) (by decide))) h_x rfl rfl rfl rfl hl.1 rfl (Nat.le_of_ble_eq_true rfl) dX1_learned_2 ⟨Nat.le_of_ble_eq_true rfl, Nat.le_of_ble_eq_true rfl⟩ (fun H locs hM => ?_)
  refine lv_pop F.1.1 F.1.2.1 dX1_learned_5 rfl ?_
  refine lv_aload_n F.1.1 F.1.2.1 dX1_learned_6 rfl (lv_at hl 0 rfl) ?_
  refine lv_iload_n F.1.1 F.1.2.1 dX1_learned_7 rfl (lv_at hl 2 rfl) ?_
  refine mc_Va (As := [_]) F hM (cs_X1_pack l hd hn hS h_x h3) (cwV 1 F.1.2.2.2.2 (lw_V q1356 q1358 qs29 q70 q1359) rfl rfl rfl (by decide +kernel) (mRm_ok (by decide) (by decide))) h_x rfl rfl rfl rfl hl.1 rfl (Nat.le_of_ble_eq_true rfl) dX1_learned_8 ⟨Nat.le_of_ble_eq_true rfl, Nat.le_of_ble_eq_true rfl⟩ (fun H locs hM => ?_)
  refine lv_pop F.1.1 F.1.2.1 dX1_learned_11 rfl ?_
  refine lv_aload_n F.1.1 F.1.2.1 dX1_learned_12 rfl (lv_at hl 0 rfl) ?_
  refine lv_iload_n F.1.1 F.1.2.1 dX1_learned_13 rfl (lv_at hl 1 rfl) ?_
  refine mc_Va (As := [_]) F hM (cs_X1_drive l hd hn hS h_x h1) (cwV 1 F.1.2.2.2.2 (lw_V q1211 q1213 qs23 q70 q1214) rfl rfl rfl (by decide +kernel) (mRm_ok (by decide) (by decide))) h_x rfl rfl rfl rfl hl.1 rfl (Nat.le_of_ble_eq_true rfl) dX1_learned_14 ⟨Nat.le_of_ble_eq_true rfl, Nat.le_of_ble_eq_true rfl⟩ (fun H locs hM => ?_)
  refine cg2 F hM (sq_D hS (by omega)) 2 (by decide) q278 (fun x h => h) rfl dX1_learned_17 ?_
  refine lv_iload_n F.1.1 F.1.2.1 dX1_learned_20 rfl (lv_at hl 2 rfl) ?_
  refine mr_ialdS F hM (j0 := 64 + 6 * d + k) (sq_L hS (by omega)) (by omega) (by omega) (by omega) dX1_learned_21 ?_
  exact mr_iret F hQ hM ⟨rfl, rfl⟩ (Nat.le_of_ble_eq_true rfl) (Nat.le_of_ble_eq_true rfl) dX1_learned_22
set_option maxHeartbeats 4000000 in
theorem cx_X1_learned (l : Launch) (htr : l.stackTraces = false) {G : mG} {ad : Nat → Nat} {n : Nat} {r : Nat → Int32} {f : Nat → UInt32} {dv : Nat → Int32} {M0 : mM} {x : Nat} {v1 v2 v3 : Value} {u w : Int32} (hd : sAd n ad) (hn : n ≤ 6) (hS : sAt G ad n r f dv M0) (h_x : M0 x = some (eO 0 [.ref (ad 0), v1, v2, v3])) (hno : ¬ (inN u 4 ∧ inN w n)) : mNo l yX1_learned (ws_ yX1_learned cX1_learned 3 (some .int)) (mRm 108 20 200) [.ref x, .int u, .int w] G M0 "java/lang/IndexOutOfBoundsException" := by
  refine mMetX.of (by decide +kernel) (Nat.le_of_ble_eq_true rfl) fun p e s m args below meth c A Q M hM0 F hnm hQ hQX htab hM ls hl => ?_
  have hM0 : M0 = M := hM0.symm
  subst hM0
  have hl : lv_has ls 3 [(0, .ref x), (1, .int u), (2, .int w)] := hl
  by_cases hu : inN u 4
  · obtain ⟨d, hd4, rfl⟩ := hu
    have hw : ¬ inN w n := fun q => hno ⟨⟨d, hd4, rfl⟩, q⟩
    refine lv_aload_n F.1.1 F.1.2.1 dX1_learned_0 rfl (lv_at hl 0 rfl) ?_
    refine lv_iload_n F.1.1 F.1.2.1 dX1_learned_1 rfl (lv_at hl 1 rfl) ?_
    refine mc_Va (As := [_]) F hM (cs_X1_drive l hd hn hS h_x hd4) (cwV 1 F.1.2.2.2.2 (lw_V q1211 q1213 qs23 q70 q1214) rfl rfl rfl (by decide +kernel) (mRm_ok (by decide) (by decide))) h_x rfl rfl rfl rfl hl.1 rfl (Nat.le_of_ble_eq_true rfl) dX1_learned_2 ⟨Nat.le_of_ble_eq_true rfl, Nat.le_of_ble_eq_true rfl⟩ (fun H locs hM => ?_)
    refine lv_pop F.1.1 F.1.2.1 dX1_learned_5 rfl ?_
    refine lv_aload_n F.1.1 F.1.2.1 dX1_learned_6 rfl (lv_at hl 0 rfl) ?_
    refine lv_iload_n F.1.1 F.1.2.1 dX1_learned_7 rfl (lv_at hl 2 rfl) ?_
    exact mx_Vn (As := [_]) F hM (cx_X1_pack l htr hd hn hS h_x hw) (cwV 1 F.1.2.2.2.2 (lw_V q1356 q1358 qs29 q70 q1359) rfl rfl rfl (by decide +kernel) (mRm_ok (by decide) (by decide))) h_x (ci := 0) rfl rfl rfl hl.1 rfl (Nat.le_of_ble_eq_true rfl) dX1_learned_8 ⟨(Nat.le_of_ble_eq_true rfl), (Nat.le_of_ble_eq_true rfl)⟩ hQX htab (Nat.le_of_ble_eq_true rfl) (Nat.le_of_ble_eq_true rfl) ⟨rfl, rfl⟩
  · refine lv_aload_n F.1.1 F.1.2.1 dX1_learned_0 rfl (lv_at hl 0 rfl) ?_
    refine lv_iload_n F.1.1 F.1.2.1 dX1_learned_1 rfl (lv_at hl 1 rfl) ?_
    exact mx_Vn (As := [_]) F hM (cx_X1_drive l htr hd hn hS h_x hu) (cwV 1 F.1.2.2.2.2 (lw_V q1211 q1213 qs23 q70 q1214) rfl rfl rfl (by decide +kernel) (mRm_ok (by decide) (by decide))) h_x (ci := 0) rfl rfl rfl hl.1 rfl (Nat.le_of_ble_eq_true rfl) dX1_learned_2 ⟨(Nat.le_of_ble_eq_true rfl), (Nat.le_of_ble_eq_true rfl)⟩ hQX htab (Nat.le_of_ble_eq_true rfl) (Nat.le_of_ble_eq_true rfl) ⟨rfl, rfl⟩
set_option maxHeartbeats 4000000 in
theorem cs_X1_placeOf (l : Launch) {G : mG} {ad : Nat → Nat} {n : Nat} {r : Nat → Int32} {f : Nat → UInt32} {dv : Nat → Int32} {M0 : mM} {x : Nat} {v1 v2 v3 : Value} {d h k q0 : Nat} (hd : sAd n ad) (hn : n ≤ 6) (hS : sAt G ad n r f dv M0) (h_x : M0 x = some (eO 0 [.ref (ad 0), v1, v2, v3])) (h1 : d < 4) (h2 : h < 3) (hp : r (60 + d) = nI k) (h3 : k < n) (hc : r (52 + d) = nI q0) (h4 : q0 < 40) : mMet l yX1_placeOf (ws_ yX1_placeOf cX1_placeOf 3 (some .int)) (mRm 11 1 3) [.ref x, .int (nI d), .int (nI h)] G (pPre M0) (pPost M0 (some (.int (mPl r d h k q0)))) := by
  refine mMet.of (by decide +kernel) (Nat.le_of_ble_eq_true rfl) fun p e s m args below meth c A Q M hM0 F hnm hQ hM ls hl => ?_
  have hM0 : M0 = M := hM0.symm
  subst hM0
  have hl : lv_has ls 3 [(0, .ref x), (1, .int (nI d)), (2, .int (nI h))] := hl
  refine lv_aload_n F.1.1 F.1.2.1 dX1_placeOf_0 rfl (lv_at hl 0 rfl) ?_
  refine lv_iload_n F.1.1 F.1.2.1 dX1_placeOf_1 rfl (lv_at hl 1 rfl) ?_
  refine lv_iload_n F.1.1 F.1.2.1 dX1_placeOf_2 rfl (lv_at hl 2 rfl) ?_
  refine mc_Vv (As := [_, _]) F hM (cs_X1_checkReady l hd hn hS h_x h1 h2 hp h3) (cwV 2 F.1.2.2.2.2 (lw_V q1422 q1424 qs31 q70 q1425) rfl rfl rfl (by decide +kernel) (mRm_ok (by decide) (by decide))) h_x rfl rfl rfl rfl hl.1 rfl (Nat.le_of_ble_eq_true rfl) dX1_placeOf_3 ⟨Nat.le_of_ble_eq_true rfl, Nat.le_of_ble_eq_true rfl⟩ (fun H locs hM => ?_)
  refine lv_aload_n F.1.1 F.1.2.1 dX1_placeOf_6 rfl (lv_at hl 0 rfl) ?_
  refine cg0 F hM h_x 0 (by decide) q385 (fun x h => h) rfl dX1_placeOf_7 ?_
  refine lv_iload_n F.1.1 F.1.2.1 dX1_placeOf_10 rfl (lv_at hl 1 rfl) ?_
  refine lv_iload_n F.1.1 F.1.2.1 dX1_placeOf_11 rfl (lv_at hl 2 rfl) ?_
  refine mc_Va (As := [_, _]) F hM (hS.q2 hd (cs_X2_place l hd hn hp hc h1 h2 h3 h4)) (cwV 2 F.1.2.2.2.2 (lw_V q1511 q898 q899 q71 q900) rfl rfl rfl (by decide +kernel) (mRm_ok (by decide) (by decide))) (sq_0 hS) rfl rfl rfl rfl hl.1 rfl (Nat.le_of_ble_eq_true rfl) dX1_placeOf_12 ⟨Nat.le_of_ble_eq_true rfl, Nat.le_of_ble_eq_true rfl⟩ (fun H locs hM => ?_)
  exact mr_iret F hQ hM ⟨rfl, rfl⟩ (Nat.le_of_ble_eq_true rfl) (Nat.le_of_ble_eq_true rfl) dX1_placeOf_15
set_option maxHeartbeats 4000000 in
theorem cx_X1_placeOf_1 (l : Launch) (htr : l.stackTraces = false) {G : mG} {ad : Nat → Nat} {n : Nat} {r : Nat → Int32} {f : Nat → UInt32} {dv : Nat → Int32} {M0 : mM} {x : Nat} {v1 v2 v3 : Value} {u w : Int32} (hd : sAd n ad) (hn : n ≤ 6) (hS : sAt G ad n r f dv M0) (h_x : M0 x = some (eO 0 [.ref (ad 0), v1, v2, v3])) (hno : ¬ (inN u 4 ∧ inN w 3)) : mNo l yX1_placeOf (ws_ yX1_placeOf cX1_placeOf 3 (some .int)) (mRm 111 20 200) [.ref x, .int u, .int w] G M0 "java/lang/IndexOutOfBoundsException" := by
  refine mMetX.of (by decide +kernel) (Nat.le_of_ble_eq_true rfl) fun p e s m args below meth c A Q M hM0 F hnm hQ hQX htab hM ls hl => ?_
  have hM0 : M0 = M := hM0.symm
  subst hM0
  have hl : lv_has ls 3 [(0, .ref x), (1, .int u), (2, .int w)] := hl
  refine lv_aload_n F.1.1 F.1.2.1 dX1_placeOf_0 rfl (lv_at hl 0 rfl) ?_
  refine lv_iload_n F.1.1 F.1.2.1 dX1_placeOf_1 rfl (lv_at hl 1 rfl) ?_
  refine lv_iload_n F.1.1 F.1.2.1 dX1_placeOf_2 rfl (lv_at hl 2 rfl) ?_
  exact mx_Vn (As := [_, _]) F hM (cx_X1_checkReady_1 l htr hd hn hS h_x hno) (cwV 2 F.1.2.2.2.2 (lw_V q1422 q1424 qs31 q70 q1425) rfl rfl rfl (by decide +kernel) (mRm_ok (by decide) (by decide))) h_x (ci := 0) rfl rfl rfl hl.1 rfl (Nat.le_of_ble_eq_true rfl) dX1_placeOf_3 ⟨(Nat.le_of_ble_eq_true rfl), (Nat.le_of_ble_eq_true rfl)⟩ hQX htab (Nat.le_of_ble_eq_true rfl) (Nat.le_of_ble_eq_true rfl) ⟨rfl, rfl⟩
set_option maxHeartbeats 4000000 in
theorem cx_X1_placeOf_2 (l : Launch) (htr : l.stackTraces = false) {G : mG} {ad : Nat → Nat} {n : Nat} {r : Nat → Int32} {f : Nat → UInt32} {dv : Nat → Int32} {M0 : mM} {x : Nat} {v1 v2 v3 : Value} {d h : Nat} (hd : sAd n ad) (hn : n ≤ 6) (hS : sAt G ad n r f dv M0) (h_x : M0 x = some (eO 0 [.ref (ad 0), v1, v2, v3])) (h1 : d < 4) (h2 : h < 3) (hp : r (60 + d) = -1) : mNo l yX1_placeOf (ws_ yX1_placeOf cX1_placeOf 3 (some .int)) (mRm 111 20 200) [.ref x, .int (nI d), .int (nI h)] G M0 "java/lang/IllegalStateException" := by
  refine mMetX.of (by decide +kernel) (Nat.le_of_ble_eq_true rfl) fun p e s m args below meth c A Q M hM0 F hnm hQ hQX htab hM ls hl => ?_
  have hM0 : M0 = M := hM0.symm
  subst hM0
  have hl : lv_has ls 3 [(0, .ref x), (1, .int (nI d)), (2, .int (nI h))] := hl
  refine lv_aload_n F.1.1 F.1.2.1 dX1_placeOf_0 rfl (lv_at hl 0 rfl) ?_
  refine lv_iload_n F.1.1 F.1.2.1 dX1_placeOf_1 rfl (lv_at hl 1 rfl) ?_
  refine lv_iload_n F.1.1 F.1.2.1 dX1_placeOf_2 rfl (lv_at hl 2 rfl) ?_
  exact mx_Vn (As := [_, _]) F hM (cx_X1_checkReady_2 l htr hd hn hS h_x h1 h2 hp) (cwV 2 F.1.2.2.2.2 (lw_V q1422 q1424 qs31 q70 q1425) rfl rfl rfl (by decide +kernel) (mRm_ok (by decide) (by decide))) h_x (ci := 0) rfl rfl rfl hl.1 rfl (Nat.le_of_ble_eq_true rfl) dX1_placeOf_3 ⟨(Nat.le_of_ble_eq_true rfl), (Nat.le_of_ble_eq_true rfl)⟩ hQX htab (Nat.le_of_ble_eq_true rfl) (Nat.le_of_ble_eq_true rfl) ⟨rfl, rfl⟩
set_option maxHeartbeats 4000000 in
theorem cs_X1_packs (l : Launch) {G : mG} {ad : Nat → Nat} {n : Nat} {r : Nat → Int32} {f : Nat → UInt32} {dv : Nat → Int32} {M0 : mM} {x : Nat} {v1 v2 v3 : Value}  (hd : sAd n ad) (hn : n ≤ 6) (hS : sAt G ad n r f dv M0) (h_x : M0 x = some (eO 0 [.ref (ad 0), v1, v2, v3])) : mMet l yX1_packs (ws_ yX1_packs cX1_packs 1 (some .int)) (mRm 2 0 0) [.ref x] G (pPre M0) (pPost M0 (some (.int (nI n)))) := by
  refine mMet.of (by decide +kernel) (Nat.le_of_ble_eq_true rfl) fun p e s m args below meth c A Q M hM0 F hnm hQ hM ls hl => ?_
  have hM0 : M0 = M := hM0.symm
  subst hM0
  have hl : lv_has ls 1 [(0, .ref x)] := hl
  refine lv_aload_n F.1.1 F.1.2.1 dX1_packs_0 rfl (lv_at hl 0 rfl) ?_
  refine cg0 F hM h_x 0 (by decide) q385 (fun x h => h) rfl dX1_packs_1 ?_
  refine cg1 F hM (sq_0 hS) 1 (by decide) q309 (fun x h => h) rfl dX1_packs_4 ?_
  refine mc_Fa (As := []) F hM (hS.q2 hd (cs_J2_size l hd hn )) (va_cwF 0 F.1.2.2.2.2 (lw_F q404 q408 q410 q74 q412) rfl rfl rfl (mFw F (by decide) q411 q409 q407) (by decide +kernel) (mRm_ok (by decide) (by decide))) (sq_2 hS) rfl rfl (F.2.1.1 9 _ rfl).2 rfl rfl hl.1 rfl (Nat.le_of_ble_eq_true rfl) dX1_packs_7 ⟨Nat.le_of_ble_eq_true rfl, Nat.le_of_ble_eq_true rfl⟩ (fun H locs hM => ?_)
  exact mr_iret F hQ hM ⟨rfl, rfl⟩ (Nat.le_of_ble_eq_true rfl) (Nat.le_of_ble_eq_true rfl) dX1_packs_12
set_option maxHeartbeats 4000000 in
theorem cs_X1_driveOf (l : Launch) {G : mG} {ad : Nat → Nat} {n : Nat} {r : Nat → Int32} {f : Nat → UInt32} {dv : Nat → Int32} {M0 : mM} {x : Nat} {v1 v2 v3 : Value} {k : Nat} (hd : sAd n ad) (hn : n ≤ 6) (hS : sAt G ad n r f dv M0) (h_x : M0 x = some (eO 0 [.ref (ad 0), v1, v2, v3])) (h3 : k < n) : mMet l yX1_driveOf (ws_ yX1_driveOf cX1_driveOf 2 (some .int)) (mRm 8 0 0) [.ref x, .int (nI k)] G (pPre M0) (pPost M0 (some (.int (dv k)))) := by
  refine mMet.of (by decide +kernel) (Nat.le_of_ble_eq_true rfl) fun p e s m args below meth c A Q M hM0 F hnm hQ hM ls hl => ?_
  have hM0 : M0 = M := hM0.symm
  subst hM0
  have hl : lv_has ls 2 [(0, .ref x), (1, .int (nI k))] := hl
  refine lv_aload_n F.1.1 F.1.2.1 dX1_driveOf_0 rfl (lv_at hl 0 rfl) ?_
  refine lv_iload_n F.1.1 F.1.2.1 dX1_driveOf_1 rfl (lv_at hl 1 rfl) ?_
  refine mc_Va (As := [_]) F hM (cs_X1_pack l hd hn hS h_x h3) (cwV 1 F.1.2.2.2.2 (lw_V q1356 q1358 qs29 q70 q1359) rfl rfl rfl (by decide +kernel) (mRm_ok (by decide) (by decide))) h_x rfl rfl rfl rfl hl.1 rfl (Nat.le_of_ble_eq_true rfl) dX1_driveOf_2 ⟨Nat.le_of_ble_eq_true rfl, Nat.le_of_ble_eq_true rfl⟩ (fun H locs hM => ?_)
  refine cg6 F hM (sq_P hS hn (by omega)) 2 (by decide) q1133 (fun x h => h) rfl dX1_driveOf_5 ?_
  exact mr_iret F hQ hM ⟨rfl, rfl⟩ (Nat.le_of_ble_eq_true rfl) (Nat.le_of_ble_eq_true rfl) dX1_driveOf_8
set_option maxHeartbeats 4000000 in
theorem cx_X1_driveOf (l : Launch) (htr : l.stackTraces = false) {G : mG} {ad : Nat → Nat} {n : Nat} {r : Nat → Int32} {f : Nat → UInt32} {dv : Nat → Int32} {M0 : mM} {x : Nat} {v1 v2 v3 : Value} {u : Int32} (hd : sAd n ad) (hn : n ≤ 6) (hS : sAt G ad n r f dv M0) (h_x : M0 x = some (eO 0 [.ref (ad 0), v1, v2, v3])) (hno : ¬ inN u n) : mNo l yX1_driveOf (ws_ yX1_driveOf cX1_driveOf 2 (some .int)) (mRm 108 20 200) [.ref x, .int u] G M0 "java/lang/IndexOutOfBoundsException" := by
  refine mMetX.of (by decide +kernel) (Nat.le_of_ble_eq_true rfl) fun p e s m args below meth c A Q M hM0 F hnm hQ hQX htab hM ls hl => ?_
  have hM0 : M0 = M := hM0.symm
  subst hM0
  have hl : lv_has ls 2 [(0, .ref x), (1, .int u)] := hl
  refine lv_aload_n F.1.1 F.1.2.1 dX1_driveOf_0 rfl (lv_at hl 0 rfl) ?_
  refine lv_iload_n F.1.1 F.1.2.1 dX1_driveOf_1 rfl (lv_at hl 1 rfl) ?_
  exact mx_Vn (As := [_]) F hM (cx_X1_pack l htr hd hn hS h_x hno) (cwV 1 F.1.2.2.2.2 (lw_V q1356 q1358 qs29 q70 q1359) rfl rfl rfl (by decide +kernel) (mRm_ok (by decide) (by decide))) h_x (ci := 0) rfl rfl rfl hl.1 rfl (Nat.le_of_ble_eq_true rfl) dX1_driveOf_2 ⟨(Nat.le_of_ble_eq_true rfl), (Nat.le_of_ble_eq_true rfl)⟩ hQX htab (Nat.le_of_ble_eq_true rfl) (Nat.le_of_ble_eq_true rfl) ⟨rfl, rfl⟩
set_option maxHeartbeats 4000000 in
theorem cs_X1_baseOf (l : Launch) {G : mG} {ad : Nat → Nat} {n : Nat} {r : Nat → Int32} {f : Nat → UInt32} {dv : Nat → Int32} {M0 : mM} {x : Nat} {v1 v2 v3 : Value} {k : Nat} (hd : sAd n ad) (hn : n ≤ 6) (hS : sAt G ad n r f dv M0) (h_x : M0 x = some (eO 0 [.ref (ad 0), v1, v2, v3])) (h3 : k < n) : mMet l yX1_baseOf (ws_ yX1_baseOf cX1_baseOf 2 (some .int)) (mRm 8 0 0) [.ref x, .int (nI k)] G (pPre M0) (pPost M0 (some (.int (r (90 + k))))) := by
  refine mMet.of (by decide +kernel) (Nat.le_of_ble_eq_true rfl) fun p e s m args below meth c A Q M hM0 F hnm hQ hM ls hl => ?_
  have hM0 : M0 = M := hM0.symm
  subst hM0
  have hl : lv_has ls 2 [(0, .ref x), (1, .int (nI k))] := hl
  refine lv_aload_n F.1.1 F.1.2.1 dX1_baseOf_0 rfl (lv_at hl 0 rfl) ?_
  refine lv_iload_n F.1.1 F.1.2.1 dX1_baseOf_1 rfl (lv_at hl 1 rfl) ?_
  refine mc_Va (As := [_]) F hM (cs_X1_pack l hd hn hS h_x h3) (cwV 1 F.1.2.2.2.2 (lw_V q1356 q1358 qs29 q70 q1359) rfl rfl rfl (by decide +kernel) (mRm_ok (by decide) (by decide))) h_x rfl rfl rfl rfl hl.1 rfl (Nat.le_of_ble_eq_true rfl) dX1_baseOf_2 ⟨Nat.le_of_ble_eq_true rfl, Nat.le_of_ble_eq_true rfl⟩ (fun H locs hM => ?_)
  refine cg6 F hM (sq_P hS hn (by omega)) 0 (by decide) q1127 (fun x h => h) rfl dX1_baseOf_5 ?_
  exact mr_iret F hQ hM ⟨rfl, rfl⟩ (Nat.le_of_ble_eq_true rfl) (Nat.le_of_ble_eq_true rfl) dX1_baseOf_8
set_option maxHeartbeats 4000000 in
theorem cx_X1_baseOf (l : Launch) (htr : l.stackTraces = false) {G : mG} {ad : Nat → Nat} {n : Nat} {r : Nat → Int32} {f : Nat → UInt32} {dv : Nat → Int32} {M0 : mM} {x : Nat} {v1 v2 v3 : Value} {u : Int32} (hd : sAd n ad) (hn : n ≤ 6) (hS : sAt G ad n r f dv M0) (h_x : M0 x = some (eO 0 [.ref (ad 0), v1, v2, v3])) (hno : ¬ inN u n) : mNo l yX1_baseOf (ws_ yX1_baseOf cX1_baseOf 2 (some .int)) (mRm 108 20 200) [.ref x, .int u] G M0 "java/lang/IndexOutOfBoundsException" := by
  refine mMetX.of (by decide +kernel) (Nat.le_of_ble_eq_true rfl) fun p e s m args below meth c A Q M hM0 F hnm hQ hQX htab hM ls hl => ?_
  have hM0 : M0 = M := hM0.symm
  subst hM0
  have hl : lv_has ls 2 [(0, .ref x), (1, .int u)] := hl
  refine lv_aload_n F.1.1 F.1.2.1 dX1_baseOf_0 rfl (lv_at hl 0 rfl) ?_
  refine lv_iload_n F.1.1 F.1.2.1 dX1_baseOf_1 rfl (lv_at hl 1 rfl) ?_
  exact mx_Vn (As := [_]) F hM (cx_X1_pack l htr hd hn hS h_x hno) (cwV 1 F.1.2.2.2.2 (lw_V q1356 q1358 qs29 q70 q1359) rfl rfl rfl (by decide +kernel) (mRm_ok (by decide) (by decide))) h_x (ci := 0) rfl rfl rfl hl.1 rfl (Nat.le_of_ble_eq_true rfl) dX1_baseOf_2 ⟨(Nat.le_of_ble_eq_true rfl), (Nat.le_of_ble_eq_true rfl)⟩ hQX htab (Nat.le_of_ble_eq_true rfl) (Nat.le_of_ble_eq_true rfl) ⟨rfl, rfl⟩
set_option maxHeartbeats 4000000 in
theorem cs_X1_isScratched (l : Launch) {G : mG} {ad : Nat → Nat} {n : Nat} {r : Nat → Int32} {f : Nat → UInt32} {dv : Nat → Int32} {M0 : mM} {x : Nat} {v1 v2 v3 : Value} {k h : Nat} (hd : sAd n ad) (hn : n ≤ 6) (hS : sAt G ad n r f dv M0) (h_x : M0 x = some (eO 0 [.ref (ad 0), v1, v2, v3])) (h3 : k < n) (h2 : h < 3) (hst : r (96 + (3 * k + h)) = nI 0 ∨ r (96 + (3 * k + h)) = nI 1) : mMet l yX1_isScratched (ws_ yX1_isScratched cX1_isScratched 3 (some .boolean)) (mRm 9 0 0) [.ref x, .int (nI k), .int (nI h)] G (pPre M0) (pPost M0 (some (.int (r (96 + (3 * k + h)))))) := by
  refine mMet.of (by decide +kernel) (Nat.le_of_ble_eq_true rfl) fun p e s m args below meth c A Q M hM0 F hnm hQ hM ls hl => ?_
  have hM0 : M0 = M := hM0.symm
  subst hM0
  have hl : lv_has ls 3 [(0, .ref x), (1, .int (nI k)), (2, .int (nI h))] := hl
  refine lv_aload_n F.1.1 F.1.2.1 dX1_isScratched_0 rfl (lv_at hl 0 rfl) ?_
  refine lv_iload_n F.1.1 F.1.2.1 dX1_isScratched_1 rfl (lv_at hl 1 rfl) ?_
  refine lv_iload_n F.1.1 F.1.2.1 dX1_isScratched_2 rfl (lv_at hl 2 rfl) ?_
  refine mc_Va (As := [_, _]) F hM (cs_X1_surface l hd hn hS h_x h3 h2) (cwV 2 F.1.2.2.2.2 (lw_V q1533 q1535 qs32 q70 q1536) rfl rfl rfl (by decide +kernel) (mRm_ok (by decide) (by decide))) h_x rfl rfl rfl rfl hl.1 rfl (Nat.le_of_ble_eq_true rfl) dX1_isScratched_3 ⟨Nat.le_of_ble_eq_true rfl, Nat.le_of_ble_eq_true rfl⟩ (fun H locs hM => ?_)
  refine cg7 F hM (sq_S hS hn (by omega)) 3 (by decide) q1114 (fun x h => h) rfl dX1_isScratched_6 ?_
  exact mr_zret F hQ (by rcases hst with e | e <;> rw [e] <;> rfl) hM ⟨rfl, rfl⟩ (Nat.le_of_ble_eq_true rfl) (Nat.le_of_ble_eq_true rfl) dX1_isScratched_9
set_option maxHeartbeats 4000000 in
theorem cx_X1_isScratched (l : Launch) (htr : l.stackTraces = false) {G : mG} {ad : Nat → Nat} {n : Nat} {r : Nat → Int32} {f : Nat → UInt32} {dv : Nat → Int32} {M0 : mM} {x : Nat} {v1 v2 v3 : Value} {u w : Int32} (hd : sAd n ad) (hn : n ≤ 6) (hS : sAt G ad n r f dv M0) (h_x : M0 x = some (eO 0 [.ref (ad 0), v1, v2, v3])) (hno : ¬ (inN u n ∧ inN w 3)) : mNo l yX1_isScratched (ws_ yX1_isScratched cX1_isScratched 3 (some .boolean)) (mRm 109 20 200) [.ref x, .int u, .int w] G M0 "java/lang/IndexOutOfBoundsException" := by
  refine mMetX.of (by decide +kernel) (Nat.le_of_ble_eq_true rfl) fun p e s m args below meth c A Q M hM0 F hnm hQ hQX htab hM ls hl => ?_
  have hM0 : M0 = M := hM0.symm
  subst hM0
  have hl : lv_has ls 3 [(0, .ref x), (1, .int u), (2, .int w)] := hl
  refine lv_aload_n F.1.1 F.1.2.1 dX1_isScratched_0 rfl (lv_at hl 0 rfl) ?_
  refine lv_iload_n F.1.1 F.1.2.1 dX1_isScratched_1 rfl (lv_at hl 1 rfl) ?_
  refine lv_iload_n F.1.1 F.1.2.1 dX1_isScratched_2 rfl (lv_at hl 2 rfl) ?_
  exact mx_Vn (As := [_, _]) F hM (cx_X1_surface l htr hd hn hS h_x hno) (cwV 2 F.1.2.2.2.2 (lw_V q1533 q1535 qs32 q70 q1536) rfl rfl rfl (by decide +kernel) (mRm_ok (by decide) (by decide))) h_x (ci := 0) rfl rfl rfl hl.1 rfl (Nat.le_of_ble_eq_true rfl) dX1_isScratched_3 ⟨(Nat.le_of_ble_eq_true rfl), (Nat.le_of_ble_eq_true rfl)⟩ hQX htab (Nat.le_of_ble_eq_true rfl) (Nat.le_of_ble_eq_true rfl) ⟨rfl, rfl⟩
set_option maxHeartbeats 4000000 in
theorem cs_X1_valueOf (l : Launch) {G : mG} {ad : Nat → Nat} {n : Nat} {r : Nat → Int32} {f : Nat → UInt32} {dv : Nat → Int32} {M0 : mM} {x : Nat} {v1 v2 v3 : Value} {k h q0 : Nat} (hd : sAd n ad) (hn : n ≤ 6) (hS : sAt G ad n r f dv M0) (h_x : M0 x = some (eO 0 [.ref (ad 0), v1, v2, v3])) (h3 : k < n) (h2 : h < 3) (h4 : q0 < 40) : mMet l yX1_valueOf (ws_ yX1_valueOf cX1_valueOf 4 (some .int)) (mRm 10 0 0) [.ref x, .int (nI k), .int (nI h), .int (nI q0)] G (pPre M0) (pPost M0 (some (.int (r (126 + (40 * (3 * k + h) + q0)))))) := by
  refine mMet.of (by decide +kernel) (Nat.le_of_ble_eq_true rfl) fun p e s m args below meth c A Q M hM0 F hnm hQ hM ls hl => ?_
  have hM0 : M0 = M := hM0.symm
  subst hM0
  have hl : lv_has ls 4 [(0, .ref x), (1, .int (nI k)), (2, .int (nI h)), (3, .int (nI q0))] := hl
  refine lv_aload_n F.1.1 F.1.2.1 dX1_valueOf_0 rfl (lv_at hl 0 rfl) ?_
  refine lv_iload_n F.1.1 F.1.2.1 dX1_valueOf_1 rfl (lv_at hl 1 rfl) ?_
  refine lv_iload_n F.1.1 F.1.2.1 dX1_valueOf_2 rfl (lv_at hl 2 rfl) ?_
  refine lv_iload_n F.1.1 F.1.2.1 dX1_valueOf_3 rfl (lv_at hl 3 rfl) ?_
  refine mc_Va (As := [_, _, _]) F hM (cs_X1_track l hd hn hS h_x h3 h2 h4) (cwV 3 F.1.2.2.2.2 (lw_V q1544 q1546 qs33 q70 q1547) rfl rfl rfl (by decide +kernel) (mRm_ok (by decide) (by decide))) h_x rfl rfl rfl rfl hl.1 rfl (Nat.le_of_ble_eq_true rfl) dX1_valueOf_4 ⟨Nat.le_of_ble_eq_true rfl, Nat.le_of_ble_eq_true rfl⟩ (fun H locs hM => ?_)
  refine cg7 F hM (sq_S hS hn (by omega)) 0 (by decide) q1104 (fun x h => h) rfl dX1_valueOf_7 ?_
  refine lv_iload_n F.1.1 F.1.2.1 dX1_valueOf_10 rfl (lv_at hl 3 rfl) ?_
  refine mr_ialdS F hM (j0 := 126 + (40 * (3 * k + h) + q0)) (sq_V hS hn (by omega)) (by omega) (by omega) (by omega) dX1_valueOf_11 ?_
  exact mr_iret F hQ hM ⟨rfl, rfl⟩ (Nat.le_of_ble_eq_true rfl) (Nat.le_of_ble_eq_true rfl) dX1_valueOf_12
set_option maxHeartbeats 4000000 in
theorem cx_X1_valueOf (l : Launch) (htr : l.stackTraces = false) {G : mG} {ad : Nat → Nat} {n : Nat} {r : Nat → Int32} {f : Nat → UInt32} {dv : Nat → Int32} {M0 : mM} {x : Nat} {v1 v2 v3 : Value} {u w z : Int32} (hd : sAd n ad) (hn : n ≤ 6) (hS : sAt G ad n r f dv M0) (h_x : M0 x = some (eO 0 [.ref (ad 0), v1, v2, v3])) (hno : ¬ (inN u n ∧ inN w 3 ∧ inN z 40)) : mNo l yX1_valueOf (ws_ yX1_valueOf cX1_valueOf 4 (some .int)) (mRm 110 20 200) [.ref x, .int u, .int w, .int z] G M0 "java/lang/IndexOutOfBoundsException" := by
  refine mMetX.of (by decide +kernel) (Nat.le_of_ble_eq_true rfl) fun p e s m args below meth c A Q M hM0 F hnm hQ hQX htab hM ls hl => ?_
  have hM0 : M0 = M := hM0.symm
  subst hM0
  have hl : lv_has ls 4 [(0, .ref x), (1, .int u), (2, .int w), (3, .int z)] := hl
  refine lv_aload_n F.1.1 F.1.2.1 dX1_valueOf_0 rfl (lv_at hl 0 rfl) ?_
  refine lv_iload_n F.1.1 F.1.2.1 dX1_valueOf_1 rfl (lv_at hl 1 rfl) ?_
  refine lv_iload_n F.1.1 F.1.2.1 dX1_valueOf_2 rfl (lv_at hl 2 rfl) ?_
  refine lv_iload_n F.1.1 F.1.2.1 dX1_valueOf_3 rfl (lv_at hl 3 rfl) ?_
  exact mx_Vn (As := [_, _, _]) F hM (cx_X1_track l htr hd hn hS h_x hno) (cwV 3 F.1.2.2.2.2 (lw_V q1544 q1546 qs33 q70 q1547) rfl rfl rfl (by decide +kernel) (mRm_ok (by decide) (by decide))) h_x (ci := 0) rfl rfl rfl hl.1 rfl (Nat.le_of_ble_eq_true rfl) dX1_valueOf_4 ⟨(Nat.le_of_ble_eq_true rfl), (Nat.le_of_ble_eq_true rfl)⟩ hQX htab (Nat.le_of_ble_eq_true rfl) (Nat.le_of_ble_eq_true rfl) ⟨rfl, rfl⟩
set_option maxHeartbeats 4000000 in
theorem cs_X1_strengthOf (l : Launch) {G : mG} {ad : Nat → Nat} {n : Nat} {r : Nat → Int32} {f : Nat → UInt32} {dv : Nat → Int32} {M0 : mM} {x : Nat} {v1 v2 v3 : Value} {k h q0 : Nat} (hd : sAd n ad) (hn : n ≤ 6) (hS : sAt G ad n r f dv M0) (h_x : M0 x = some (eO 0 [.ref (ad 0), v1, v2, v3])) (h3 : k < n) (h2 : h < 3) (h4 : q0 < 40) : mMet l yX1_strengthOf (ws_ yX1_strengthOf cX1_strengthOf 4 (some .float)) (mRm 10 0 0) [.ref x, .int (nI k), .int (nI h), .int (nI q0)] G (pPre M0) (pPost M0 (some (.float (f (40 * (3 * k + h) + q0))))) := by
  refine mMet.of (by decide +kernel) (Nat.le_of_ble_eq_true rfl) fun p e s m args below meth c A Q M hM0 F hnm hQ hM ls hl => ?_
  have hM0 : M0 = M := hM0.symm
  subst hM0
  have hl : lv_has ls 4 [(0, .ref x), (1, .int (nI k)), (2, .int (nI h)), (3, .int (nI q0))] := hl
  refine lv_aload_n F.1.1 F.1.2.1 dX1_strengthOf_0 rfl (lv_at hl 0 rfl) ?_
  refine lv_iload_n F.1.1 F.1.2.1 dX1_strengthOf_1 rfl (lv_at hl 1 rfl) ?_
  refine lv_iload_n F.1.1 F.1.2.1 dX1_strengthOf_2 rfl (lv_at hl 2 rfl) ?_
  refine lv_iload_n F.1.1 F.1.2.1 dX1_strengthOf_3 rfl (lv_at hl 3 rfl) ?_
  refine mc_Va (As := [_, _, _]) F hM (cs_X1_track l hd hn hS h_x h3 h2 h4) (cwV 3 F.1.2.2.2.2 (lw_V q1544 q1546 qs33 q70 q1547) rfl rfl rfl (by decide +kernel) (mRm_ok (by decide) (by decide))) h_x rfl rfl rfl rfl hl.1 rfl (Nat.le_of_ble_eq_true rfl) dX1_strengthOf_4 ⟨Nat.le_of_ble_eq_true rfl, Nat.le_of_ble_eq_true rfl⟩ (fun H locs hM => ?_)
  refine cg7 F hM (sq_S hS hn (by omega)) 2 (by decide) q1110 (fun x h => h) rfl dX1_strengthOf_7 ?_
  refine lv_iload_n F.1.1 F.1.2.1 dX1_strengthOf_10 rfl (lv_at hl 3 rfl) ?_
  refine mr_faldS F hM (j0 := 40 * (3 * k + h) + q0) (sq_F hS (by omega)) (by omega) (by omega) (by omega) dX1_strengthOf_11 ?_
  exact mr_fret F hQ hM ⟨rfl, rfl⟩ (Nat.le_of_ble_eq_true rfl) (Nat.le_of_ble_eq_true rfl) dX1_strengthOf_12
set_option maxHeartbeats 4000000 in
theorem cx_X1_strengthOf (l : Launch) (htr : l.stackTraces = false) {G : mG} {ad : Nat → Nat} {n : Nat} {r : Nat → Int32} {f : Nat → UInt32} {dv : Nat → Int32} {M0 : mM} {x : Nat} {v1 v2 v3 : Value} {u w z : Int32} (hd : sAd n ad) (hn : n ≤ 6) (hS : sAt G ad n r f dv M0) (h_x : M0 x = some (eO 0 [.ref (ad 0), v1, v2, v3])) (hno : ¬ (inN u n ∧ inN w 3 ∧ inN z 40)) : mNo l yX1_strengthOf (ws_ yX1_strengthOf cX1_strengthOf 4 (some .float)) (mRm 110 20 200) [.ref x, .int u, .int w, .int z] G M0 "java/lang/IndexOutOfBoundsException" := by
  refine mMetX.of (by decide +kernel) (Nat.le_of_ble_eq_true rfl) fun p e s m args below meth c A Q M hM0 F hnm hQ hQX htab hM ls hl => ?_
  have hM0 : M0 = M := hM0.symm
  subst hM0
  have hl : lv_has ls 4 [(0, .ref x), (1, .int u), (2, .int w), (3, .int z)] := hl
  refine lv_aload_n F.1.1 F.1.2.1 dX1_strengthOf_0 rfl (lv_at hl 0 rfl) ?_
  refine lv_iload_n F.1.1 F.1.2.1 dX1_strengthOf_1 rfl (lv_at hl 1 rfl) ?_
  refine lv_iload_n F.1.1 F.1.2.1 dX1_strengthOf_2 rfl (lv_at hl 2 rfl) ?_
  refine lv_iload_n F.1.1 F.1.2.1 dX1_strengthOf_3 rfl (lv_at hl 3 rfl) ?_
  exact mx_Vn (As := [_, _, _]) F hM (cx_X1_track l htr hd hn hS h_x hno) (cwV 3 F.1.2.2.2.2 (lw_V q1544 q1546 qs33 q70 q1547) rfl rfl rfl (by decide +kernel) (mRm_ok (by decide) (by decide))) h_x (ci := 0) rfl rfl rfl hl.1 rfl (Nat.le_of_ble_eq_true rfl) dX1_strengthOf_4 ⟨(Nat.le_of_ble_eq_true rfl), (Nat.le_of_ble_eq_true rfl)⟩ hQX htab (Nat.le_of_ble_eq_true rfl) (Nat.le_of_ble_eq_true rfl) ⟨rfl, rfl⟩
set_option maxHeartbeats 4000000 in
theorem cs_X1_positionOf (l : Launch) {G : mG} {ad : Nat → Nat} {n : Nat} {r : Nat → Int32} {f : Nat → UInt32} {dv : Nat → Int32} {M0 : mM} {x : Nat} {v1 v2 v3 : Value} {k h q0 : Nat} (hd : sAd n ad) (hn : n ≤ 6) (hS : sAt G ad n r f dv M0) (h_x : M0 x = some (eO 0 [.ref (ad 0), v1, v2, v3])) (h3 : k < n) (h2 : h < 3) (h4 : q0 < 40) (hv : ¬ r (126 + (40 * (3 * k + h) + q0)) = -1) : mMet l yX1_positionOf (ws_ yX1_positionOf cX1_positionOf 5 (some .int)) (mRm 10 0 0) [.ref x, .int (nI k), .int (nI h), .int (nI q0)] G (pPre M0) (pPost M0 (some (.int (r (846 + (40 * (3 * k + h) + q0)))))) := by
  refine mMet.of (by decide +kernel) (Nat.le_of_ble_eq_true rfl) fun p e s m args below meth c A Q M hM0 F hnm hQ hM ls hl => ?_
  have hM0 : M0 = M := hM0.symm
  subst hM0
  have hl : lv_has ls 5 [(0, .ref x), (1, .int (nI k)), (2, .int (nI h)), (3, .int (nI q0))] := hl
  refine lv_aload_n F.1.1 F.1.2.1 dX1_positionOf_0 rfl (lv_at hl 0 rfl) ?_
  refine lv_iload_n F.1.1 F.1.2.1 dX1_positionOf_1 rfl (lv_at hl 1 rfl) ?_
  refine lv_iload_n F.1.1 F.1.2.1 dX1_positionOf_2 rfl (lv_at hl 2 rfl) ?_
  refine lv_iload_n F.1.1 F.1.2.1 dX1_positionOf_3 rfl (lv_at hl 3 rfl) ?_
  refine mc_Va (As := [_, _, _]) F hM (cs_X1_track l hd hn hS h_x h3 h2 h4) (cwV 3 F.1.2.2.2.2 (lw_V q1544 q1546 qs33 q70 q1547) rfl rfl rfl (by decide +kernel) (mRm_ok (by decide) (by decide))) h_x rfl rfl rfl rfl hl.1 rfl (Nat.le_of_ble_eq_true rfl) dX1_positionOf_4 ⟨Nat.le_of_ble_eq_true rfl, Nat.le_of_ble_eq_true rfl⟩ (fun H locs hM => ?_)
  refine lv_astore (lv' := [(4, _), (0, _), (1, _), (2, _), (3, _)]) F.1.1 F.1.2.1 dX1_positionOf_7 hl (by decide) rfl (fun ls hl => ?_)
  refine lv_aload F.1.1 F.1.2.1 dX1_positionOf_9 (lv_at hl 0 rfl) ?_
  refine lv_iload_n F.1.1 F.1.2.1 dX1_positionOf_11 rfl (lv_at hl 4 rfl) ?_
  refine mc_Va (As := [_]) F hM (hS.q2 hd (cs_X9_isEmpty l hd hn (by omega) (by omega))) (cwV 1 F.1.2.2.2.2 (lw_V q1555 q914 q915 q95 q916) rfl rfl rfl (by decide +kernel) (mRm_ok (by decide) (by decide))) (sq_S hS hn (by omega)) rfl rfl rfl rfl hl.1 rfl (Nat.le_of_ble_eq_true rfl) dX1_positionOf_12 ⟨Nat.le_of_ble_eq_true rfl, Nat.le_of_ble_eq_true rfl⟩ (fun H locs hM => ?_)
  refine lv_if_ne (tgt := 22) F.1.1 F.1.2.1 dX1_positionOf_15 (by decide) (fun c15 => ?_) (fun c15 => ?_)
  · exact absurd (bI_f hv) c15
  · refine mr_iconst F 1 dX1_positionOf_18 (by decide +kernel) ?_
    refine lv_goto (tgt := 23) F.1.1 F.1.2.1 dX1_positionOf_19 (by decide) ?_
    refine mc_Sv (As := [_]) F hM (cs_X1_checkState l (by decide)) (va_cwS 1 F.1.2.2.2.2 (lw_S q1313 q1314 q70 q1315) rfl rfl rfl (by decide +kernel) (mRm_ok (by decide) (by decide))) rfl rfl hl.1 rfl (Nat.le_of_ble_eq_true rfl) dX1_positionOf_23 ⟨Nat.le_of_ble_eq_true rfl, Nat.le_of_ble_eq_true rfl⟩ (fun H locs hM => ?_)
    refine lv_aload F.1.1 F.1.2.1 dX1_positionOf_26 (lv_at hl 0 rfl) ?_
    refine cg7 F hM (sq_S hS hn (by omega)) 1 (by decide) q1107 (fun x h => h) rfl dX1_positionOf_28 ?_
    refine lv_iload_n F.1.1 F.1.2.1 dX1_positionOf_31 rfl (lv_at hl 4 rfl) ?_
    refine mr_ialdS F hM (j0 := 846 + (40 * (3 * k + h) + q0)) (sq_O hS hn (by omega)) (by omega) (by omega) (by omega) dX1_positionOf_32 ?_
    exact mr_iret F hQ hM ⟨rfl, rfl⟩ (Nat.le_of_ble_eq_true rfl) (Nat.le_of_ble_eq_true rfl) dX1_positionOf_33
set_option maxHeartbeats 4000000 in
theorem cx_X1_positionOf_1 (l : Launch) (htr : l.stackTraces = false) {G : mG} {ad : Nat → Nat} {n : Nat} {r : Nat → Int32} {f : Nat → UInt32} {dv : Nat → Int32} {M0 : mM} {x : Nat} {v1 v2 v3 : Value} {u w z : Int32} (hd : sAd n ad) (hn : n ≤ 6) (hS : sAt G ad n r f dv M0) (h_x : M0 x = some (eO 0 [.ref (ad 0), v1, v2, v3])) (hno : ¬ (inN u n ∧ inN w 3 ∧ inN z 40)) : mNo l yX1_positionOf (ws_ yX1_positionOf cX1_positionOf 5 (some .int)) (mRm 110 20 200) [.ref x, .int u, .int w, .int z] G M0 "java/lang/IndexOutOfBoundsException" := by
  refine mMetX.of (by decide +kernel) (Nat.le_of_ble_eq_true rfl) fun p e s m args below meth c A Q M hM0 F hnm hQ hQX htab hM ls hl => ?_
  have hM0 : M0 = M := hM0.symm
  subst hM0
  have hl : lv_has ls 5 [(0, .ref x), (1, .int u), (2, .int w), (3, .int z)] := hl
  refine lv_aload_n F.1.1 F.1.2.1 dX1_positionOf_0 rfl (lv_at hl 0 rfl) ?_
  refine lv_iload_n F.1.1 F.1.2.1 dX1_positionOf_1 rfl (lv_at hl 1 rfl) ?_
  refine lv_iload_n F.1.1 F.1.2.1 dX1_positionOf_2 rfl (lv_at hl 2 rfl) ?_
  refine lv_iload_n F.1.1 F.1.2.1 dX1_positionOf_3 rfl (lv_at hl 3 rfl) ?_
  exact mx_Vn (As := [_, _, _]) F hM (cx_X1_track l htr hd hn hS h_x hno) (cwV 3 F.1.2.2.2.2 (lw_V q1544 q1546 qs33 q70 q1547) rfl rfl rfl (by decide +kernel) (mRm_ok (by decide) (by decide))) h_x (ci := 0) rfl rfl rfl hl.1 rfl (Nat.le_of_ble_eq_true rfl) dX1_positionOf_4 ⟨(Nat.le_of_ble_eq_true rfl), (Nat.le_of_ble_eq_true rfl)⟩ hQX htab (Nat.le_of_ble_eq_true rfl) (Nat.le_of_ble_eq_true rfl) ⟨rfl, rfl⟩
set_option maxHeartbeats 4000000 in
theorem cx_X1_positionOf_2 (l : Launch) (htr : l.stackTraces = false) {G : mG} {ad : Nat → Nat} {n : Nat} {r : Nat → Int32} {f : Nat → UInt32} {dv : Nat → Int32} {M0 : mM} {x : Nat} {v1 v2 v3 : Value} {k h q0 : Nat} (hd : sAd n ad) (hn : n ≤ 6) (hS : sAt G ad n r f dv M0) (h_x : M0 x = some (eO 0 [.ref (ad 0), v1, v2, v3])) (h3 : k < n) (h2 : h < 3) (h4 : q0 < 40) (hv : r (126 + (40 * (3 * k + h) + q0)) = -1) : mNo l yX1_positionOf (ws_ yX1_positionOf cX1_positionOf 5 (some .int)) (mRm 110 20 200) [.ref x, .int (nI k), .int (nI h), .int (nI q0)] G M0 "java/lang/IllegalStateException" := by
  refine mMetX.of (by decide +kernel) (Nat.le_of_ble_eq_true rfl) fun p e s m args below meth c A Q M hM0 F hnm hQ hQX htab hM ls hl => ?_
  have hM0 : M0 = M := hM0.symm
  subst hM0
  have hl : lv_has ls 5 [(0, .ref x), (1, .int (nI k)), (2, .int (nI h)), (3, .int (nI q0))] := hl
  refine lv_aload_n F.1.1 F.1.2.1 dX1_positionOf_0 rfl (lv_at hl 0 rfl) ?_
  refine lv_iload_n F.1.1 F.1.2.1 dX1_positionOf_1 rfl (lv_at hl 1 rfl) ?_
  refine lv_iload_n F.1.1 F.1.2.1 dX1_positionOf_2 rfl (lv_at hl 2 rfl) ?_
  refine lv_iload_n F.1.1 F.1.2.1 dX1_positionOf_3 rfl (lv_at hl 3 rfl) ?_
  refine mc_Va (As := [_, _, _]) F hM (cs_X1_track l hd hn hS h_x h3 h2 h4) (cwV 3 F.1.2.2.2.2 (lw_V q1544 q1546 qs33 q70 q1547) rfl rfl rfl (by decide +kernel) (mRm_ok (by decide) (by decide))) h_x rfl rfl rfl rfl hl.1 rfl (Nat.le_of_ble_eq_true rfl) dX1_positionOf_4 ⟨Nat.le_of_ble_eq_true rfl, Nat.le_of_ble_eq_true rfl⟩ (fun H locs hM => ?_)
  refine lv_astore (lv' := [(4, _), (0, _), (1, _), (2, _), (3, _)]) F.1.1 F.1.2.1 dX1_positionOf_7 hl (by decide) rfl (fun ls hl => ?_)
  refine lv_aload F.1.1 F.1.2.1 dX1_positionOf_9 (lv_at hl 0 rfl) ?_
  refine lv_iload_n F.1.1 F.1.2.1 dX1_positionOf_11 rfl (lv_at hl 4 rfl) ?_
  refine mc_Va (As := [_]) F hM (hS.q2 hd (cs_X9_isEmpty l hd hn (by omega) (by omega))) (cwV 1 F.1.2.2.2.2 (lw_V q1555 q914 q915 q95 q916) rfl rfl rfl (by decide +kernel) (mRm_ok (by decide) (by decide))) (sq_S hS hn (by omega)) rfl rfl rfl rfl hl.1 rfl (Nat.le_of_ble_eq_true rfl) dX1_positionOf_12 ⟨Nat.le_of_ble_eq_true rfl, Nat.le_of_ble_eq_true rfl⟩ (fun H locs hM => ?_)
  refine lv_if_ne (tgt := 22) F.1.1 F.1.2.1 dX1_positionOf_15 (by decide) (fun c15 => ?_) (fun c15 => ?_)
  · refine mr_iconst F 0 dX1_positionOf_22 (by decide +kernel) ?_
    exact mx_Sn (As := [_]) F hM (cx_X1_checkState l htr rfl) (va_cwS 1 F.1.2.2.2.2 (lw_S q1313 q1314 q70 q1315) rfl rfl rfl (by decide +kernel) (mRm_ok (by decide) (by decide))) rfl hl.1 rfl (Nat.le_of_ble_eq_true rfl) dX1_positionOf_23 ⟨(Nat.le_of_ble_eq_true rfl), (Nat.le_of_ble_eq_true rfl)⟩ hQX htab (Nat.le_of_ble_eq_true rfl) (Nat.le_of_ble_eq_true rfl) ⟨rfl, rfl⟩
  · exact absurd c15 (by rw [bI_t hv]; decide)
