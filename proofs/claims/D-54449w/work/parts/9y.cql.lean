/-! DISKPACKS: its helpers -/
set_option maxHeartbeats 4000000 in
theorem cs_X3_isData_D (l : Launch) {G : mG} {ad : Nat → Nat} {n : Nat} {r : Nat → Int32} {f : Nat → UInt32} {dv : Nat → Int32} {M0 : mM} {d h : Nat} (hd : sAd n ad) (hn : n ≤ 6) (hS : sAt G ad n r f dv M0) (h1 : d < 4) (h2 : h < 3) : mMet l yX3_isData (ws_ yX3_isData cX3_isData 3 (some .boolean)) (mRm 2 1 3) [.ref (ad (10 + d)), .int (nI h)] G (pPre M0) (pPost M0 (some (.int (nI 1)))) := by
  refine mMet.of (by decide +kernel) (Nat.le_of_ble_eq_true rfl) fun p e s m args below meth c A Q M hM0 F hnm hQ hM ls hl => ?_
  have hM0 : M0 = M := hM0.symm
  subst hM0
  have hl : lv_has ls 3 [(0, .ref (ad (10 + d))), (1, .int (nI h))] := hl
  refine mr_iconst F 3 dX3_isData_0 (by decide +kernel) ?_
  refine mr_newQ F hM 5 q154 q155 rfl (Nat.le_of_ble_eq_true rfl) (Nat.le_of_ble_eq_true rfl) (Nat.le_of_ble_eq_true rfl) dX3_isData_1 (fun a9 H hq_a9 hM => ?_)
  have o_a9 := hS.out hq_a9
  have hS := nw_S hM hq_a9 hS
  have h_a9 := nw_self hM
  have hN := fun (a : Nat) (e : mE) (h : M0 a = some e) => nw_new hM hq_a9 h
  have w9 := fun (a : Nat) (e : mE) (h : M0 a = some e) => kp_ne hq_a9 h
  refine lv_astore_n (lv' := [(2, _), (0, _), (1, _)]) F.1.1 F.1.2.1 dX3_isData_4 rfl hl (by decide) rfl (fun ls hl => ?_)
  refine lv_aload_n F.1.1 F.1.2.1 dX3_isData_5 rfl (lv_at hl 1 rfl) ?_
  refine cg2 F hM (sq_D hS (by omega)) 0 (by decide) q273 (fun x h => h) rfl dX3_isData_6 ?_
  refine mr_iconst F 0 dX3_isData_9 (by decide +kernel) ?_
  refine lv_aload_n F.1.1 F.1.2.1 dX3_isData_10 rfl (lv_at hl 0 rfl) ?_
  refine mr_iconst F 0 dX3_isData_11 (by decide +kernel) ?_
  refine mr_iconst F 3 dX3_isData_12 (by decide +kernel) ?_
  refine mr_copyQ F hM q1412 5 4 rfl rfl (sq_A hS h1) h_a9 (by omega) (by omega) (by omega) (by omega) (by omega) (fun i hi y hy => by
      obtain rfl : ad (40 + 4 * d + (0 + i)) = y := Option.some.inj ((if_pos (show 0 + i < 3 by omega)).symm.trans hy)
      have := sq_HD hS h1 hi
      rw [show 40 + (4 * d + i) = 40 + 4 * d + (0 + i) by omega] at this
      exact ⟨_, this⟩) hl.1 (Nat.le_of_ble_eq_true rfl) (Nat.le_of_ble_eq_true rfl) dX3_isData_13 (fun H locs hM => ?_)
  have hS := nw_SP hM o_a9 hS
  have h_a9 := nw_self hM
  have hN := fun (a : Nat) (e : mE) (h : M0 a = some e) => nw_put hM (w9 a e h) (hN a e h)
  refine lv_aload_n F.1.1 F.1.2.1 dX3_isData_16 rfl (lv_at hl 0 rfl) ?_
  refine mr_iconst F 0 dX3_isData_17 (by decide +kernel) ?_
  refine lv_aload_n F.1.1 F.1.2.1 dX3_isData_18 rfl (lv_at hl 1 rfl) ?_
  refine lv_iload_n F.1.1 F.1.2.1 dX3_isData_19 rfl (lv_at hl 2 rfl) ?_
  refine mc_Va (As := [_]) F hM (hS.q2 hd (cs_X3_head_D l hd hn (by omega) (by omega))) (cwV 1 F.1.2.2.2.2 (lw_V q885 q886 q887 q75 q888) rfl rfl rfl (by decide +kernel) (mRm_ok (by decide) (by decide))) (sq_D hS (by omega)) rfl rfl rfl rfl hl.1 rfl (Nat.le_of_ble_eq_true rfl) dX3_isData_20 ⟨Nat.le_of_ble_eq_true rfl, Nat.le_of_ble_eq_true rfl⟩ (fun H locs hM => ?_)
  refine mc_SNW (n := 3) (As := [_, _, _]) F hM (cs_X1_fits_ok l h_a9 (sq_HD hS h1 h2) (by decide)) q198 q196 q197 q70 (by decide +kernel) (mRm_ok (by decide) (by decide)) rfl rfl hl.1 rfl (Nat.le_of_ble_eq_true rfl) dX3_isData_23 ⟨Nat.le_of_ble_eq_true rfl, Nat.le_of_ble_eq_true rfl⟩ (fun H locs hM => ?_)
  have hN := fun (a : Nat) (e : mE) (h : M0 a = some e) => nw_put hM (w9 a e h) (hN a e h)
  exact mr_zret F hQ rfl (hM.sub hN) ⟨rfl, rfl⟩ (Nat.le_of_ble_eq_true rfl) (Nat.le_of_ble_eq_true rfl) dX3_isData_26
set_option maxHeartbeats 4000000 in
theorem cs_X1_drive (l : Launch) {G : mG} {ad : Nat → Nat} {n : Nat} {r : Nat → Int32} {f : Nat → UInt32} {dv : Nat → Int32} {M0 : mM} {x : Nat} {v1 v2 v3 : Value} {d : Nat} (hd : sAd n ad) (hn : n ≤ 6) (hS : sAt G ad n r f dv M0) (h_x : M0 x = some (eO 0 [.ref (ad 0), v1, v2, v3])) (h1 : d < 4) : mMet l yX1_drive (ws_ yX1_drive cX1_drive 2 (some (.object "DiskPacks$Drive"))) (mRm 7 0 0) [.ref x, .int (nI d)] G (pPre M0) (pPost M0 (some (.ref (ad (10 + d))))) := by
  refine mMet.of (by decide +kernel) (Nat.le_of_ble_eq_true rfl) fun p e s m args below meth c A Q M hM0 F hnm hQ hM ls hl => ?_
  have hM0 : M0 = M := hM0.symm
  subst hM0
  have hl : lv_has ls 2 [(0, .ref x), (1, .int (nI d))] := hl
  refine lv_iload_n F.1.1 F.1.2.1 dX1_drive_0 rfl (lv_at hl 1 rfl) ?_
  refine mr_iconst F 4 dX1_drive_1 (by decide +kernel) ?_
  refine mc_Sv (As := [_, _]) F hM (cs_X1_checkNumber l (by omega) (by omega)) (va_cwS 2 F.1.2.2.2.2 (lw_S q1215 q1216 q70 q1217) rfl rfl rfl (by decide +kernel) (mRm_ok (by decide) (by decide))) rfl rfl hl.1 rfl (Nat.le_of_ble_eq_true rfl) dX1_drive_2 ⟨Nat.le_of_ble_eq_true rfl, Nat.le_of_ble_eq_true rfl⟩ (fun H locs hM => ?_)
  refine lv_aload_n F.1.1 F.1.2.1 dX1_drive_5 rfl (lv_at hl 0 rfl) ?_
  refine cg0 F hM h_x 0 (by decide) q385 (fun x h => h) rfl dX1_drive_6 ?_
  refine cg1 F hM (sq_0 hS) 0 (by decide) q307 (fun x h => h) rfl dX1_drive_9 ?_
  refine lv_iload_n F.1.1 F.1.2.1 dX1_drive_12 rfl (lv_at hl 1 rfl) ?_
  refine mr_aald F.1.1 F.1.2.1 F.2.1 hM 6 (sq_1 hS) rfl (by omega) (by omega) (sSa_rf (by omega) rfl) dX1_drive_13 ?_
  exact mr_aret F hQ (by first | exact Or.inl ⟨_, rfl⟩ | exact Or.inr ⟨_, rfl⟩) hM ⟨rfl, rfl⟩ (Nat.le_of_ble_eq_true rfl) (Nat.le_of_ble_eq_true rfl) dX1_drive_14
set_option maxHeartbeats 4000000 in
theorem cx_X1_drive (l : Launch) (htr : l.stackTraces = false) {G : mG} {ad : Nat → Nat} {n : Nat} {r : Nat → Int32} {f : Nat → UInt32} {dv : Nat → Int32} {M0 : mM} {x : Nat} {v1 v2 v3 : Value} {u : Int32} (hd : sAd n ad) (hn : n ≤ 6) (hS : sAt G ad n r f dv M0) (h_x : M0 x = some (eO 0 [.ref (ad 0), v1, v2, v3])) (hno : ¬ inN u 4) : mNo l yX1_drive (ws_ yX1_drive cX1_drive 2 (some (.object "DiskPacks$Drive"))) (mRm 107 1 6) [.ref x, .int u] G M0 "java/lang/IndexOutOfBoundsException" := by
  refine mMetX.of (by decide +kernel) (Nat.le_of_ble_eq_true rfl) fun p e s m args below meth c A Q M hM0 F hnm hQ hQX htab hM ls hl => ?_
  have hM0 : M0 = M := hM0.symm
  subst hM0
  have hl : lv_has ls 2 [(0, .ref x), (1, .int u)] := hl
  refine lv_iload_n F.1.1 F.1.2.1 dX1_drive_0 rfl (lv_at hl 1 rfl) ?_
  refine mr_iconst F 4 dX1_drive_1 (by decide +kernel) ?_
  exact mx_Sn (As := [_, _]) F hM (cx_X1_checkNumber l htr (by decide) hno) (va_cwS 2 F.1.2.2.2.2 (lw_S q1215 q1216 q70 q1217) rfl rfl rfl (by decide +kernel) (mRm_ok (by decide) (by decide))) rfl hl.1 rfl (Nat.le_of_ble_eq_true rfl) dX1_drive_2 ⟨(Nat.le_of_ble_eq_true rfl), (Nat.le_of_ble_eq_true rfl)⟩ hQX htab (Nat.le_of_ble_eq_true rfl) (Nat.le_of_ble_eq_true rfl) ⟨rfl, rfl⟩
set_option maxHeartbeats 4000000 in
theorem cs_X1_head_D (l : Launch) {G : mG} {ad : Nat → Nat} {n : Nat} {r : Nat → Int32} {f : Nat → UInt32} {dv : Nat → Int32} {M0 : mM} {x : Nat} {v1 v2 v3 : Value} {d h : Nat} (hd : sAd n ad) (hn : n ≤ 6) (hS : sAt G ad n r f dv M0) (h_x : M0 x = some (eO 0 [.ref (ad 0), v1, v2, v3])) (h1 : d < 4) (h2 : h < 3) : mMet l yX1_head (ws_ yX1_head cX1_head 4 (some (.object "DiskPacks$Head"))) (mRm 8 0 0) [.ref x, .int (nI d), .int (nI h)] G (pPre M0) (pPost M0 (some (.ref (ad (40 + (4 * d + h)))))) := by
  refine mMet.of (by decide +kernel) (Nat.le_of_ble_eq_true rfl) fun p e s m args below meth c A Q M hM0 F hnm hQ hM ls hl => ?_
  have hM0 : M0 = M := hM0.symm
  subst hM0
  have hl : lv_has ls 4 [(0, .ref x), (1, .int (nI d)), (2, .int (nI h))] := hl
  refine lv_aload_n F.1.1 F.1.2.1 dX1_head_0 rfl (lv_at hl 0 rfl) ?_
  refine lv_iload_n F.1.1 F.1.2.1 dX1_head_1 rfl (lv_at hl 1 rfl) ?_
  refine mc_Va (As := [_]) F hM (cs_X1_drive l hd hn hS h_x h1) (cwV 1 F.1.2.2.2.2 (lw_V q1211 q1213 qs23 q70 q1214) rfl rfl rfl (by decide +kernel) (mRm_ok (by decide) (by decide))) h_x rfl rfl rfl rfl hl.1 rfl (Nat.le_of_ble_eq_true rfl) dX1_head_2 ⟨Nat.le_of_ble_eq_true rfl, Nat.le_of_ble_eq_true rfl⟩ (fun H locs hM => ?_)
  refine lv_astore_n (lv' := [(3, _), (0, _), (1, _), (2, _)]) F.1.1 F.1.2.1 dX1_head_5 rfl hl (by decide) rfl (fun ls hl => ?_)
  refine lv_iload_n F.1.1 F.1.2.1 dX1_head_6 rfl (lv_at hl 3 rfl) ?_
  refine mr_iconst F 4 dX1_head_7 (by decide +kernel) ?_
  refine mc_Sv (As := [_, _]) F hM (cs_X1_checkNumber l (by omega) (by decide)) (va_cwS 2 F.1.2.2.2.2 (lw_S q1215 q1216 q70 q1217) rfl rfl rfl (by decide +kernel) (mRm_ok (by decide) (by decide))) rfl rfl hl.1 rfl (Nat.le_of_ble_eq_true rfl) dX1_head_8 ⟨Nat.le_of_ble_eq_true rfl, Nat.le_of_ble_eq_true rfl⟩ (fun H locs hM => ?_)
  refine lv_aload_n F.1.1 F.1.2.1 dX1_head_11 rfl (lv_at hl 0 rfl) ?_
  refine lv_iload_n F.1.1 F.1.2.1 dX1_head_12 rfl (lv_at hl 3 rfl) ?_
  refine mc_Va (As := [_]) F hM (hS.q2 hd (cs_X3_head_D l hd hn (by omega) (by omega))) (cwV 1 F.1.2.2.2.2 (lw_V q1239 q886 q887 q75 q888) rfl rfl rfl (by decide +kernel) (mRm_ok (by decide) (by decide))) (sq_D hS (by omega)) rfl rfl rfl rfl hl.1 rfl (Nat.le_of_ble_eq_true rfl) dX1_head_13 ⟨Nat.le_of_ble_eq_true rfl, Nat.le_of_ble_eq_true rfl⟩ (fun H locs hM => ?_)
  exact mr_aret F hQ (by first | exact Or.inl ⟨_, rfl⟩ | exact Or.inr ⟨_, rfl⟩) hM ⟨rfl, rfl⟩ (Nat.le_of_ble_eq_true rfl) (Nat.le_of_ble_eq_true rfl) dX1_head_16
set_option maxHeartbeats 4000000 in
theorem cs_X1_head_S (l : Launch) {G : mG} {ad : Nat → Nat} {n : Nat} {r : Nat → Int32} {f : Nat → UInt32} {dv : Nat → Int32} {M0 : mM} {x : Nat} {v1 v2 v3 : Value} {d : Nat} (hd : sAd n ad) (hn : n ≤ 6) (hS : sAt G ad n r f dv M0) (h_x : M0 x = some (eO 0 [.ref (ad 0), v1, v2, v3])) (h1 : d < 4) : mMet l yX1_head (ws_ yX1_head cX1_head 4 (some (.object "DiskPacks$Head"))) (mRm 8 0 0) [.ref x, .int (nI d), .int (nI 3)] G (pPre M0) (pPost M0 (some (.ref (ad (40 + (4 * d + 3)))))) := by
  refine mMet.of (by decide +kernel) (Nat.le_of_ble_eq_true rfl) fun p e s m args below meth c A Q M hM0 F hnm hQ hM ls hl => ?_
  have hM0 : M0 = M := hM0.symm
  subst hM0
  have hl : lv_has ls 4 [(0, .ref x), (1, .int (nI d)), (2, .int (nI 3))] := hl
  refine lv_aload_n F.1.1 F.1.2.1 dX1_head_0 rfl (lv_at hl 0 rfl) ?_
  refine lv_iload_n F.1.1 F.1.2.1 dX1_head_1 rfl (lv_at hl 1 rfl) ?_
  refine mc_Va (As := [_]) F hM (cs_X1_drive l hd hn hS h_x h1) (cwV 1 F.1.2.2.2.2 (lw_V q1211 q1213 qs23 q70 q1214) rfl rfl rfl (by decide +kernel) (mRm_ok (by decide) (by decide))) h_x rfl rfl rfl rfl hl.1 rfl (Nat.le_of_ble_eq_true rfl) dX1_head_2 ⟨Nat.le_of_ble_eq_true rfl, Nat.le_of_ble_eq_true rfl⟩ (fun H locs hM => ?_)
  refine lv_astore_n (lv' := [(3, _), (0, _), (1, _), (2, _)]) F.1.1 F.1.2.1 dX1_head_5 rfl hl (by decide) rfl (fun ls hl => ?_)
  refine lv_iload_n F.1.1 F.1.2.1 dX1_head_6 rfl (lv_at hl 3 rfl) ?_
  refine mr_iconst F 4 dX1_head_7 (by decide +kernel) ?_
  refine mc_Sv (As := [_, _]) F hM (cs_X1_checkNumber l (by omega) (by decide)) (va_cwS 2 F.1.2.2.2.2 (lw_S q1215 q1216 q70 q1217) rfl rfl rfl (by decide +kernel) (mRm_ok (by decide) (by decide))) rfl rfl hl.1 rfl (Nat.le_of_ble_eq_true rfl) dX1_head_8 ⟨Nat.le_of_ble_eq_true rfl, Nat.le_of_ble_eq_true rfl⟩ (fun H locs hM => ?_)
  refine lv_aload_n F.1.1 F.1.2.1 dX1_head_11 rfl (lv_at hl 0 rfl) ?_
  refine lv_iload_n F.1.1 F.1.2.1 dX1_head_12 rfl (lv_at hl 3 rfl) ?_
  refine mc_Va (As := [_]) F hM (hS.q2 hd (cs_X3_head_S l hd hn (by omega))) (cwV 1 F.1.2.2.2.2 (lw_V q1239 q886 q887 q75 q888) rfl rfl rfl (by decide +kernel) (mRm_ok (by decide) (by decide))) (sq_D hS (by omega)) rfl rfl rfl rfl hl.1 rfl (Nat.le_of_ble_eq_true rfl) dX1_head_13 ⟨Nat.le_of_ble_eq_true rfl, Nat.le_of_ble_eq_true rfl⟩ (fun H locs hM => ?_)
  exact mr_aret F hQ (by first | exact Or.inl ⟨_, rfl⟩ | exact Or.inr ⟨_, rfl⟩) hM ⟨rfl, rfl⟩ (Nat.le_of_ble_eq_true rfl) (Nat.le_of_ble_eq_true rfl) dX1_head_16
set_option maxHeartbeats 4000000 in
theorem cx_X1_head (l : Launch) (htr : l.stackTraces = false) {G : mG} {ad : Nat → Nat} {n : Nat} {r : Nat → Int32} {f : Nat → UInt32} {dv : Nat → Int32} {M0 : mM} {x : Nat} {v1 v2 v3 : Value} {u w : Int32} (hd : sAd n ad) (hn : n ≤ 6) (hS : sAt G ad n r f dv M0) (h_x : M0 x = some (eO 0 [.ref (ad 0), v1, v2, v3])) (hno : ¬ (inN u 4 ∧ inN w 4)) : mNo l yX1_head (ws_ yX1_head cX1_head 4 (some (.object "DiskPacks$Head"))) (mRm 108 1 6) [.ref x, .int u, .int w] G M0 "java/lang/IndexOutOfBoundsException" := by
  refine mMetX.of (by decide +kernel) (Nat.le_of_ble_eq_true rfl) fun p e s m args below meth c A Q M hM0 F hnm hQ hQX htab hM ls hl => ?_
  have hM0 : M0 = M := hM0.symm
  subst hM0
  have hl : lv_has ls 4 [(0, .ref x), (1, .int u), (2, .int w)] := hl
  by_cases hu : inN u 4
  · obtain ⟨d, hd4, rfl⟩ := hu
    have hw : ¬ inN w 4 := fun q => hno ⟨⟨d, hd4, rfl⟩, q⟩
    refine lv_aload_n F.1.1 F.1.2.1 dX1_head_0 rfl (lv_at hl 0 rfl) ?_
    refine lv_iload_n F.1.1 F.1.2.1 dX1_head_1 rfl (lv_at hl 1 rfl) ?_
    refine mc_Va (As := [_]) F hM (cs_X1_drive l hd hn hS h_x hd4) (cwV 1 F.1.2.2.2.2 (lw_V q1211 q1213 qs23 q70 q1214) rfl rfl rfl (by decide +kernel) (mRm_ok (by decide) (by decide))) h_x rfl rfl rfl rfl hl.1 rfl (Nat.le_of_ble_eq_true rfl) dX1_head_2 ⟨Nat.le_of_ble_eq_true rfl, Nat.le_of_ble_eq_true rfl⟩ (fun H locs hM => ?_)
    refine lv_astore_n (lv' := [(3, _), (0, _), (1, _), (2, _)]) F.1.1 F.1.2.1 dX1_head_5 rfl hl (by decide) rfl (fun ls hl => ?_)
    refine lv_iload_n F.1.1 F.1.2.1 dX1_head_6 rfl (lv_at hl 3 rfl) ?_
    refine mr_iconst F 4 dX1_head_7 (by decide +kernel) ?_
    exact mx_Sn (As := [_, _]) F hM (cx_X1_checkNumber l htr (by decide) hw) (va_cwS 2 F.1.2.2.2.2 (lw_S q1215 q1216 q70 q1217) rfl rfl rfl (by decide +kernel) (mRm_ok (by decide) (by decide))) rfl hl.1 rfl (Nat.le_of_ble_eq_true rfl) dX1_head_8 ⟨(Nat.le_of_ble_eq_true rfl), (Nat.le_of_ble_eq_true rfl)⟩ hQX htab (Nat.le_of_ble_eq_true rfl) (Nat.le_of_ble_eq_true rfl) ⟨rfl, rfl⟩
  · refine lv_aload_n F.1.1 F.1.2.1 dX1_head_0 rfl (lv_at hl 0 rfl) ?_
    refine lv_iload_n F.1.1 F.1.2.1 dX1_head_1 rfl (lv_at hl 1 rfl) ?_
    exact mx_Vn (As := [_]) F hM (cx_X1_drive l htr hd hn hS h_x hu) (cwV 1 F.1.2.2.2.2 (lw_V q1211 q1213 qs23 q70 q1214) rfl rfl rfl (by decide +kernel) (mRm_ok (by decide) (by decide))) h_x (ci := 0) rfl rfl rfl hl.1 rfl (Nat.le_of_ble_eq_true rfl) dX1_head_2 ⟨(Nat.le_of_ble_eq_true rfl), (Nat.le_of_ble_eq_true rfl)⟩ hQX htab (Nat.le_of_ble_eq_true rfl) (Nat.le_of_ble_eq_true rfl) ⟨rfl, rfl⟩
set_option maxHeartbeats 4000000 in
theorem cs_X1_pack (l : Launch) {G : mG} {ad : Nat → Nat} {n : Nat} {r : Nat → Int32} {f : Nat → UInt32} {dv : Nat → Int32} {M0 : mM} {x : Nat} {v1 v2 v3 : Value} {k : Nat} (hd : sAd n ad) (hn : n ≤ 6) (hS : sAt G ad n r f dv M0) (h_x : M0 x = some (eO 0 [.ref (ad 0), v1, v2, v3])) (h3 : k < n) : mMet l yX1_pack (ws_ yX1_pack cX1_pack 2 (some (.object "DiskPacks$Pack"))) (mRm 7 0 0) [.ref x, .int (nI k)] G (pPre M0) (pPost M0 (some (.ref (ad (60 + k))))) := by
  refine mMet.of (by decide +kernel) (Nat.le_of_ble_eq_true rfl) fun p e s m args below meth c A Q M hM0 F hnm hQ hM ls hl => ?_
  have hM0 : M0 = M := hM0.symm
  subst hM0
  have hl : lv_has ls 2 [(0, .ref x), (1, .int (nI k))] := hl
  refine lv_iload_n F.1.1 F.1.2.1 dX1_pack_0 rfl (lv_at hl 1 rfl) ?_
  refine lv_aload_n F.1.1 F.1.2.1 dX1_pack_1 rfl (lv_at hl 0 rfl) ?_
  refine cg0 F hM h_x 0 (by decide) q385 (fun x h => h) rfl dX1_pack_2 ?_
  refine cg1 F hM (sq_0 hS) 1 (by decide) q309 (fun x h => h) rfl dX1_pack_5 ?_
  refine mc_Fa (As := []) F hM (hS.q2 hd (cs_J2_size l hd hn )) (va_cwF 0 F.1.2.2.2.2 (lw_F q404 q408 q410 q74 q412) rfl rfl rfl (mFw F (by decide) q411 q409 q407) (by decide +kernel) (mRm_ok (by decide) (by decide))) (sq_2 hS) rfl rfl (F.2.1.1 9 _ rfl).2 rfl rfl hl.1 rfl (Nat.le_of_ble_eq_true rfl) dX1_pack_8 ⟨Nat.le_of_ble_eq_true rfl, Nat.le_of_ble_eq_true rfl⟩ (fun H locs hM => ?_)
  refine mc_Sv (As := [_, _]) F hM (cs_X1_checkNumber l h3 (by omega)) (va_cwS 2 F.1.2.2.2.2 (lw_S q1215 q1216 q70 q1217) rfl rfl rfl (by decide +kernel) (mRm_ok (by decide) (by decide))) rfl rfl hl.1 rfl (Nat.le_of_ble_eq_true rfl) dX1_pack_13 ⟨Nat.le_of_ble_eq_true rfl, Nat.le_of_ble_eq_true rfl⟩ (fun H locs hM => ?_)
  refine lv_aload_n F.1.1 F.1.2.1 dX1_pack_16 rfl (lv_at hl 0 rfl) ?_
  refine cg0 F hM h_x 0 (by decide) q385 (fun x h => h) rfl dX1_pack_17 ?_
  refine cg1 F hM (sq_0 hS) 1 (by decide) q309 (fun x h => h) rfl dX1_pack_20 ?_
  refine lv_iload_n F.1.1 F.1.2.1 dX1_pack_23 rfl (lv_at hl 1 rfl) ?_
  refine mc_Fa (As := [_]) F hM (hS.q2 hd (cs_J2_get l hd hn (by omega))) (va_cwF 1 F.1.2.2.2.2 (lw_F q1361 q830 q832 q74 q834) rfl rfl rfl (mFw F (by decide) q833 q831 q407) (by decide +kernel) (mRm_ok (by decide) (by decide))) (sq_2 hS) rfl rfl (F.2.1.1 9 _ rfl).2 rfl rfl hl.1 rfl (Nat.le_of_ble_eq_true rfl) dX1_pack_24 ⟨Nat.le_of_ble_eq_true rfl, Nat.le_of_ble_eq_true rfl⟩ (fun H locs hM => ?_)
  refine mr_castS F hM (sq_P hS hn (by omega)) (ci := 6) rfl q1362 dX1_pack_29 ?_
  exact mr_aret F hQ (by first | exact Or.inl ⟨_, rfl⟩ | exact Or.inr ⟨_, rfl⟩) hM ⟨rfl, rfl⟩ (Nat.le_of_ble_eq_true rfl) (Nat.le_of_ble_eq_true rfl) dX1_pack_32
set_option maxHeartbeats 4000000 in
theorem cx_X1_pack (l : Launch) (htr : l.stackTraces = false) {G : mG} {ad : Nat → Nat} {n : Nat} {r : Nat → Int32} {f : Nat → UInt32} {dv : Nat → Int32} {M0 : mM} {x : Nat} {v1 v2 v3 : Value} {u : Int32} (hd : sAd n ad) (hn : n ≤ 6) (hS : sAt G ad n r f dv M0) (h_x : M0 x = some (eO 0 [.ref (ad 0), v1, v2, v3])) (hno : ¬ inN u n) : mNo l yX1_pack (ws_ yX1_pack cX1_pack 2 (some (.object "DiskPacks$Pack"))) (mRm 107 1 6) [.ref x, .int u] G M0 "java/lang/IndexOutOfBoundsException" := by
  refine mMetX.of (by decide +kernel) (Nat.le_of_ble_eq_true rfl) fun p e s m args below meth c A Q M hM0 F hnm hQ hQX htab hM ls hl => ?_
  have hM0 : M0 = M := hM0.symm
  subst hM0
  have hl : lv_has ls 2 [(0, .ref x), (1, .int u)] := hl
  refine lv_iload_n F.1.1 F.1.2.1 dX1_pack_0 rfl (lv_at hl 1 rfl) ?_
  refine lv_aload_n F.1.1 F.1.2.1 dX1_pack_1 rfl (lv_at hl 0 rfl) ?_
  refine cg0 F hM h_x 0 (by decide) q385 (fun x h => h) rfl dX1_pack_2 ?_
  refine cg1 F hM (sq_0 hS) 1 (by decide) q309 (fun x h => h) rfl dX1_pack_5 ?_
  refine mc_Fa (As := []) F hM (hS.q2 hd (cs_J2_size l hd hn )) (va_cwF 0 F.1.2.2.2.2 (lw_F q404 q408 q410 q74 q412) rfl rfl rfl (mFw F (by decide) q411 q409 q407) (by decide +kernel) (mRm_ok (by decide) (by decide))) (sq_2 hS) rfl rfl (F.2.1.1 9 _ rfl).2 rfl rfl hl.1 rfl (Nat.le_of_ble_eq_true rfl) dX1_pack_8 ⟨Nat.le_of_ble_eq_true rfl, Nat.le_of_ble_eq_true rfl⟩ (fun H locs hM => ?_)
  exact mx_Sn (As := [_, _]) F hM (cx_X1_checkNumber l htr (by omega) hno) (va_cwS 2 F.1.2.2.2.2 (lw_S q1215 q1216 q70 q1217) rfl rfl rfl (by decide +kernel) (mRm_ok (by decide) (by decide))) rfl hl.1 rfl (Nat.le_of_ble_eq_true rfl) dX1_pack_13 ⟨(Nat.le_of_ble_eq_true rfl), (Nat.le_of_ble_eq_true rfl)⟩ hQX htab (Nat.le_of_ble_eq_true rfl) (Nat.le_of_ble_eq_true rfl) ⟨rfl, rfl⟩
set_option maxHeartbeats 4000000 in
theorem cs_X1_surface (l : Launch) {G : mG} {ad : Nat → Nat} {n : Nat} {r : Nat → Int32} {f : Nat → UInt32} {dv : Nat → Int32} {M0 : mM} {x : Nat} {v1 v2 v3 : Value} {k h : Nat} (hd : sAd n ad) (hn : n ≤ 6) (hS : sAt G ad n r f dv M0) (h_x : M0 x = some (eO 0 [.ref (ad 0), v1, v2, v3])) (h3 : k < n) (h2 : h < 3) : mMet l yX1_surface (ws_ yX1_surface cX1_surface 4 (some (.object "DiskPacks$Surface"))) (mRm 8 0 0) [.ref x, .int (nI k), .int (nI h)] G (pPre M0) (pPost M0 (some (.ref (ad (80 + (3 * k + h)))))) := by
  refine mMet.of (by decide +kernel) (Nat.le_of_ble_eq_true rfl) fun p e s m args below meth c A Q M hM0 F hnm hQ hM ls hl => ?_
  have hM0 : M0 = M := hM0.symm
  subst hM0
  have hl : lv_has ls 4 [(0, .ref x), (1, .int (nI k)), (2, .int (nI h))] := hl
  refine lv_aload_n F.1.1 F.1.2.1 dX1_surface_0 rfl (lv_at hl 0 rfl) ?_
  refine lv_iload_n F.1.1 F.1.2.1 dX1_surface_1 rfl (lv_at hl 1 rfl) ?_
  refine mc_Va (As := [_]) F hM (cs_X1_pack l hd hn hS h_x h3) (cwV 1 F.1.2.2.2.2 (lw_V q1356 q1358 qs29 q70 q1359) rfl rfl rfl (by decide +kernel) (mRm_ok (by decide) (by decide))) h_x rfl rfl rfl rfl hl.1 rfl (Nat.le_of_ble_eq_true rfl) dX1_surface_2 ⟨Nat.le_of_ble_eq_true rfl, Nat.le_of_ble_eq_true rfl⟩ (fun H locs hM => ?_)
  refine lv_astore_n (lv' := [(3, _), (0, _), (1, _), (2, _)]) F.1.1 F.1.2.1 dX1_surface_5 rfl hl (by decide) rfl (fun ls hl => ?_)
  refine lv_iload_n F.1.1 F.1.2.1 dX1_surface_6 rfl (lv_at hl 3 rfl) ?_
  refine mr_iconst F 3 dX1_surface_7 (by decide +kernel) ?_
  refine mc_Sv (As := [_, _]) F hM (cs_X1_checkNumber l (by omega) (by decide)) (va_cwS 2 F.1.2.2.2.2 (lw_S q1215 q1216 q70 q1217) rfl rfl rfl (by decide +kernel) (mRm_ok (by decide) (by decide))) rfl rfl hl.1 rfl (Nat.le_of_ble_eq_true rfl) dX1_surface_8 ⟨Nat.le_of_ble_eq_true rfl, Nat.le_of_ble_eq_true rfl⟩ (fun H locs hM => ?_)
  refine lv_aload_n F.1.1 F.1.2.1 dX1_surface_11 rfl (lv_at hl 0 rfl) ?_
  refine cg6 F hM (sq_P hS hn (by omega)) 1 (by decide) q1129 (fun x h => h) rfl dX1_surface_12 ?_
  refine lv_iload_n F.1.1 F.1.2.1 dX1_surface_15 rfl (lv_at hl 3 rfl) ?_
  refine mr_aald F.1.1 F.1.2.1 F.2.1 hM 7 (sq_U hS hn (by omega)) rfl (by omega) (by omega) (sSa_rf (by omega) (show 80 + 3 * k + h = 80 + (3 * k + h) by omega)) dX1_surface_16 ?_
  exact mr_aret F hQ (by first | exact Or.inl ⟨_, rfl⟩ | exact Or.inr ⟨_, rfl⟩) hM ⟨rfl, rfl⟩ (Nat.le_of_ble_eq_true rfl) (Nat.le_of_ble_eq_true rfl) dX1_surface_17
set_option maxHeartbeats 4000000 in
theorem cx_X1_surface (l : Launch) (htr : l.stackTraces = false) {G : mG} {ad : Nat → Nat} {n : Nat} {r : Nat → Int32} {f : Nat → UInt32} {dv : Nat → Int32} {M0 : mM} {x : Nat} {v1 v2 v3 : Value} {u w : Int32} (hd : sAd n ad) (hn : n ≤ 6) (hS : sAt G ad n r f dv M0) (h_x : M0 x = some (eO 0 [.ref (ad 0), v1, v2, v3])) (hno : ¬ (inN u n ∧ inN w 3)) : mNo l yX1_surface (ws_ yX1_surface cX1_surface 4 (some (.object "DiskPacks$Surface"))) (mRm 108 1 6) [.ref x, .int u, .int w] G M0 "java/lang/IndexOutOfBoundsException" := by
  refine mMetX.of (by decide +kernel) (Nat.le_of_ble_eq_true rfl) fun p e s m args below meth c A Q M hM0 F hnm hQ hQX htab hM ls hl => ?_
  have hM0 : M0 = M := hM0.symm
  subst hM0
  have hl : lv_has ls 4 [(0, .ref x), (1, .int u), (2, .int w)] := hl
  by_cases hu : inN u n
  · obtain ⟨k, hk4, rfl⟩ := hu
    have hw : ¬ inN w 3 := fun q => hno ⟨⟨k, hk4, rfl⟩, q⟩
    refine lv_aload_n F.1.1 F.1.2.1 dX1_surface_0 rfl (lv_at hl 0 rfl) ?_
    refine lv_iload_n F.1.1 F.1.2.1 dX1_surface_1 rfl (lv_at hl 1 rfl) ?_
    refine mc_Va (As := [_]) F hM (cs_X1_pack l hd hn hS h_x hk4) (cwV 1 F.1.2.2.2.2 (lw_V q1356 q1358 qs29 q70 q1359) rfl rfl rfl (by decide +kernel) (mRm_ok (by decide) (by decide))) h_x rfl rfl rfl rfl hl.1 rfl (Nat.le_of_ble_eq_true rfl) dX1_surface_2 ⟨Nat.le_of_ble_eq_true rfl, Nat.le_of_ble_eq_true rfl⟩ (fun H locs hM => ?_)
    refine lv_astore_n (lv' := [(3, _), (0, _), (1, _), (2, _)]) F.1.1 F.1.2.1 dX1_surface_5 rfl hl (by decide) rfl (fun ls hl => ?_)
    refine lv_iload_n F.1.1 F.1.2.1 dX1_surface_6 rfl (lv_at hl 3 rfl) ?_
    refine mr_iconst F 3 dX1_surface_7 (by decide +kernel) ?_
    exact mx_Sn (As := [_, _]) F hM (cx_X1_checkNumber l htr (by decide) hw) (va_cwS 2 F.1.2.2.2.2 (lw_S q1215 q1216 q70 q1217) rfl rfl rfl (by decide +kernel) (mRm_ok (by decide) (by decide))) rfl hl.1 rfl (Nat.le_of_ble_eq_true rfl) dX1_surface_8 ⟨(Nat.le_of_ble_eq_true rfl), (Nat.le_of_ble_eq_true rfl)⟩ hQX htab (Nat.le_of_ble_eq_true rfl) (Nat.le_of_ble_eq_true rfl) ⟨rfl, rfl⟩
  · refine lv_aload_n F.1.1 F.1.2.1 dX1_surface_0 rfl (lv_at hl 0 rfl) ?_
    refine lv_iload_n F.1.1 F.1.2.1 dX1_surface_1 rfl (lv_at hl 1 rfl) ?_
    exact mx_Vn (As := [_]) F hM (cx_X1_pack l htr hd hn hS h_x hu) (cwV 1 F.1.2.2.2.2 (lw_V q1356 q1358 qs29 q70 q1359) rfl rfl rfl (by decide +kernel) (mRm_ok (by decide) (by decide))) h_x (ci := 0) rfl rfl rfl hl.1 rfl (Nat.le_of_ble_eq_true rfl) dX1_surface_2 ⟨(Nat.le_of_ble_eq_true rfl), (Nat.le_of_ble_eq_true rfl)⟩ hQX htab (Nat.le_of_ble_eq_true rfl) (Nat.le_of_ble_eq_true rfl) ⟨rfl, rfl⟩
set_option maxHeartbeats 4000000 in
theorem cs_X1_track (l : Launch) {G : mG} {ad : Nat → Nat} {n : Nat} {r : Nat → Int32} {f : Nat → UInt32} {dv : Nat → Int32} {M0 : mM} {x : Nat} {v1 v2 v3 : Value} {k h q0 : Nat} (hd : sAd n ad) (hn : n ≤ 6) (hS : sAt G ad n r f dv M0) (h_x : M0 x = some (eO 0 [.ref (ad 0), v1, v2, v3])) (h3 : k < n) (h2 : h < 3) (h4 : q0 < 40) : mMet l yX1_track (ws_ yX1_track cX1_track 5 (some (.object "DiskPacks$Surface"))) (mRm 9 0 0) [.ref x, .int (nI k), .int (nI h), .int (nI q0)] G (pPre M0) (pPost M0 (some (.ref (ad (80 + (3 * k + h)))))) := by
  refine mMet.of (by decide +kernel) (Nat.le_of_ble_eq_true rfl) fun p e s m args below meth c A Q M hM0 F hnm hQ hM ls hl => ?_
  have hM0 : M0 = M := hM0.symm
  subst hM0
  have hl : lv_has ls 5 [(0, .ref x), (1, .int (nI k)), (2, .int (nI h)), (3, .int (nI q0))] := hl
  refine lv_aload_n F.1.1 F.1.2.1 dX1_track_0 rfl (lv_at hl 0 rfl) ?_
  refine lv_iload_n F.1.1 F.1.2.1 dX1_track_1 rfl (lv_at hl 1 rfl) ?_
  refine lv_iload_n F.1.1 F.1.2.1 dX1_track_2 rfl (lv_at hl 2 rfl) ?_
  refine mc_Va (As := [_, _]) F hM (cs_X1_surface l hd hn hS h_x h3 h2) (cwV 2 F.1.2.2.2.2 (lw_V q1533 q1535 qs32 q70 q1536) rfl rfl rfl (by decide +kernel) (mRm_ok (by decide) (by decide))) h_x rfl rfl rfl rfl hl.1 rfl (Nat.le_of_ble_eq_true rfl) dX1_track_3 ⟨Nat.le_of_ble_eq_true rfl, Nat.le_of_ble_eq_true rfl⟩ (fun H locs hM => ?_)
  refine lv_astore (lv' := [(4, _), (0, _), (1, _), (2, _), (3, _)]) F.1.1 F.1.2.1 dX1_track_6 hl (by decide) rfl (fun ls hl => ?_)
  refine lv_iload_n F.1.1 F.1.2.1 dX1_track_8 rfl (lv_at hl 4 rfl) ?_
  refine mr_bipush F 40 dX1_track_9 (by decide +kernel) ?_
  refine mc_Sv (As := [_, _]) F hM (cs_X1_checkNumber l h4 (by decide)) (va_cwS 2 F.1.2.2.2.2 (lw_S q1215 q1216 q70 q1217) rfl rfl rfl (by decide +kernel) (mRm_ok (by decide) (by decide))) rfl rfl hl.1 rfl (Nat.le_of_ble_eq_true rfl) dX1_track_11 ⟨Nat.le_of_ble_eq_true rfl, Nat.le_of_ble_eq_true rfl⟩ (fun H locs hM => ?_)
  refine lv_aload F.1.1 F.1.2.1 dX1_track_14 (lv_at hl 0 rfl) ?_
  exact mr_aret F hQ (by first | exact Or.inl ⟨_, rfl⟩ | exact Or.inr ⟨_, rfl⟩) hM ⟨rfl, rfl⟩ (Nat.le_of_ble_eq_true rfl) (Nat.le_of_ble_eq_true rfl) dX1_track_16
set_option maxHeartbeats 4000000 in
theorem cx_X1_track (l : Launch) (htr : l.stackTraces = false) {G : mG} {ad : Nat → Nat} {n : Nat} {r : Nat → Int32} {f : Nat → UInt32} {dv : Nat → Int32} {M0 : mM} {x : Nat} {v1 v2 v3 : Value} {u w z : Int32} (hd : sAd n ad) (hn : n ≤ 6) (hS : sAt G ad n r f dv M0) (h_x : M0 x = some (eO 0 [.ref (ad 0), v1, v2, v3])) (hno : ¬ (inN u n ∧ inN w 3 ∧ inN z 40)) : mNo l yX1_track (ws_ yX1_track cX1_track 5 (some (.object "DiskPacks$Surface"))) (mRm 109 1 6) [.ref x, .int u, .int w, .int z] G M0 "java/lang/IndexOutOfBoundsException" := by
  refine mMetX.of (by decide +kernel) (Nat.le_of_ble_eq_true rfl) fun p e s m args below meth c A Q M hM0 F hnm hQ hQX htab hM ls hl => ?_
  have hM0 : M0 = M := hM0.symm
  subst hM0
  have hl : lv_has ls 5 [(0, .ref x), (1, .int u), (2, .int w), (3, .int z)] := hl
  by_cases hu : inN u n ∧ inN w 3
  · obtain ⟨⟨k, hk4, rfl⟩, h, hh3, rfl⟩ := hu
    have hw : ¬ inN z 40 := fun q => hno ⟨⟨k, hk4, rfl⟩, ⟨h, hh3, rfl⟩, q⟩
    refine lv_aload_n F.1.1 F.1.2.1 dX1_track_0 rfl (lv_at hl 0 rfl) ?_
    refine lv_iload_n F.1.1 F.1.2.1 dX1_track_1 rfl (lv_at hl 1 rfl) ?_
    refine lv_iload_n F.1.1 F.1.2.1 dX1_track_2 rfl (lv_at hl 2 rfl) ?_
    refine mc_Va (As := [_, _]) F hM (cs_X1_surface l hd hn hS h_x hk4 hh3) (cwV 2 F.1.2.2.2.2 (lw_V q1533 q1535 qs32 q70 q1536) rfl rfl rfl (by decide +kernel) (mRm_ok (by decide) (by decide))) h_x rfl rfl rfl rfl hl.1 rfl (Nat.le_of_ble_eq_true rfl) dX1_track_3 ⟨Nat.le_of_ble_eq_true rfl, Nat.le_of_ble_eq_true rfl⟩ (fun H locs hM => ?_)
    refine lv_astore (lv' := [(4, _), (0, _), (1, _), (2, _), (3, _)]) F.1.1 F.1.2.1 dX1_track_6 hl (by decide) rfl (fun ls hl => ?_)
    refine lv_iload_n F.1.1 F.1.2.1 dX1_track_8 rfl (lv_at hl 4 rfl) ?_
    refine mr_bipush F 40 dX1_track_9 (by decide +kernel) ?_
    exact mx_Sn (As := [_, _]) F hM (cx_X1_checkNumber l htr (by decide) hw) (va_cwS 2 F.1.2.2.2.2 (lw_S q1215 q1216 q70 q1217) rfl rfl rfl (by decide +kernel) (mRm_ok (by decide) (by decide))) rfl hl.1 rfl (Nat.le_of_ble_eq_true rfl) dX1_track_11 ⟨(Nat.le_of_ble_eq_true rfl), (Nat.le_of_ble_eq_true rfl)⟩ hQX htab (Nat.le_of_ble_eq_true rfl) (Nat.le_of_ble_eq_true rfl) ⟨rfl, rfl⟩
  · refine lv_aload_n F.1.1 F.1.2.1 dX1_track_0 rfl (lv_at hl 0 rfl) ?_
    refine lv_iload_n F.1.1 F.1.2.1 dX1_track_1 rfl (lv_at hl 1 rfl) ?_
    refine lv_iload_n F.1.1 F.1.2.1 dX1_track_2 rfl (lv_at hl 2 rfl) ?_
    exact mx_Vn (As := [_, _]) F hM (cx_X1_surface l htr hd hn hS h_x hu) (cwV 2 F.1.2.2.2.2 (lw_V q1533 q1535 qs32 q70 q1536) rfl rfl rfl (by decide +kernel) (mRm_ok (by decide) (by decide))) h_x (ci := 0) rfl rfl rfl hl.1 rfl (Nat.le_of_ble_eq_true rfl) dX1_track_3 ⟨(Nat.le_of_ble_eq_true rfl), (Nat.le_of_ble_eq_true rfl)⟩ hQX htab (Nat.le_of_ble_eq_true rfl) (Nat.le_of_ble_eq_true rfl) ⟨rfl, rfl⟩
set_option maxHeartbeats 4000000 in
theorem cs_X1_checkData (l : Launch) {G : mG} {ad : Nat → Nat} {n : Nat} {r : Nat → Int32} {f : Nat → UInt32} {dv : Nat → Int32} {M0 : mM} {x : Nat} {v1 v2 v3 : Value} {d h : Nat} (hd : sAd n ad) (hn : n ≤ 6) (hS : sAt G ad n r f dv M0) (h_x : M0 x = some (eO 0 [.ref (ad 0), v1, v2, v3])) (h1 : d < 4) (h2 : h < 3) : mMet l yX1_checkData (ws_ yX1_checkData cX1_checkData 3 none) (mRm 9 1 3) [.ref x, .int (nI d), .int (nI h)] G (pPre M0) (pPost M0 (none)) := by
  refine mMet.of (by decide +kernel) (Nat.le_of_ble_eq_true rfl) fun p e s m args below meth c A Q M hM0 F hnm hQ hM ls hl => ?_
  have hM0 : M0 = M := hM0.symm
  subst hM0
  have hl : lv_has ls 3 [(0, .ref x), (1, .int (nI d)), (2, .int (nI h))] := hl
  refine lv_aload_n F.1.1 F.1.2.1 dX1_checkData_0 rfl (lv_at hl 0 rfl) ?_
  refine lv_iload_n F.1.1 F.1.2.1 dX1_checkData_1 rfl (lv_at hl 1 rfl) ?_
  refine lv_iload_n F.1.1 F.1.2.1 dX1_checkData_2 rfl (lv_at hl 2 rfl) ?_
  refine mc_Va (As := [_, _]) F hM (cs_X1_head_D l hd hn hS h_x h1 h2) (cwV 2 F.1.2.2.2.2 (lw_V q1207 q1209 qs22 q70 q1210) rfl rfl rfl (by decide +kernel) (mRm_ok (by decide) (by decide))) h_x rfl rfl rfl rfl hl.1 rfl (Nat.le_of_ble_eq_true rfl) dX1_checkData_3 ⟨Nat.le_of_ble_eq_true rfl, Nat.le_of_ble_eq_true rfl⟩ (fun H locs hM => ?_)
  refine lv_pop F.1.1 F.1.2.1 dX1_checkData_6 rfl ?_
  refine lv_aload_n F.1.1 F.1.2.1 dX1_checkData_7 rfl (lv_at hl 0 rfl) ?_
  refine lv_iload_n F.1.1 F.1.2.1 dX1_checkData_8 rfl (lv_at hl 1 rfl) ?_
  refine mc_Va (As := [_]) F hM (cs_X1_drive l hd hn hS h_x h1) (cwV 1 F.1.2.2.2.2 (lw_V q1211 q1213 qs23 q70 q1214) rfl rfl rfl (by decide +kernel) (mRm_ok (by decide) (by decide))) h_x rfl rfl rfl rfl hl.1 rfl (Nat.le_of_ble_eq_true rfl) dX1_checkData_9 ⟨Nat.le_of_ble_eq_true rfl, Nat.le_of_ble_eq_true rfl⟩ (fun H locs hM => ?_)
  refine lv_iload_n F.1.1 F.1.2.1 dX1_checkData_12 rfl (lv_at hl 2 rfl) ?_
  refine mc_Va (As := [_]) F hM (cs_X3_isData_D l hd hn hS h1 h2) (cwV 1 F.1.2.2.2.2 (lw_V q1408 q1409 q1410 q75 q1411) rfl rfl rfl (by decide +kernel) (mRm_ok (by decide) (by decide))) (sq_D hS (by omega)) rfl rfl rfl rfl hl.1 rfl (Nat.le_of_ble_eq_true rfl) dX1_checkData_13 ⟨Nat.le_of_ble_eq_true rfl, Nat.le_of_ble_eq_true rfl⟩ (fun H locs hM => ?_)
  refine mr_ifneN F (tgt := 27) dX1_checkData_16 (by decide) (by omega) (fun c16 => ?_) (fun c16 => ?_)
  · exact mr_vret F hQ hM ⟨rfl, rfl⟩ (Nat.le_of_ble_eq_true rfl) (Nat.le_of_ble_eq_true rfl) dX1_checkData_27
  · exact absurd c16 (by decide)
set_option maxHeartbeats 4000000 in
theorem cs_X1_checkReady (l : Launch) {G : mG} {ad : Nat → Nat} {n : Nat} {r : Nat → Int32} {f : Nat → UInt32} {dv : Nat → Int32} {M0 : mM} {x : Nat} {v1 v2 v3 : Value} {d h k : Nat} (hd : sAd n ad) (hn : n ≤ 6) (hS : sAt G ad n r f dv M0) (h_x : M0 x = some (eO 0 [.ref (ad 0), v1, v2, v3])) (h1 : d < 4) (h2 : h < 3) (hp : r (60 + d) = nI k) (h3 : k < n) : mMet l yX1_checkReady (ws_ yX1_checkReady cX1_checkReady 3 none) (mRm 10 1 3) [.ref x, .int (nI d), .int (nI h)] G (pPre M0) (pPost M0 (none)) := by
  refine mMet.of (by decide +kernel) (Nat.le_of_ble_eq_true rfl) fun p e s m args below meth c A Q M hM0 F hnm hQ hM ls hl => ?_
  have hM0 : M0 = M := hM0.symm
  subst hM0
  have hl : lv_has ls 3 [(0, .ref x), (1, .int (nI d)), (2, .int (nI h))] := hl
  refine lv_aload_n F.1.1 F.1.2.1 dX1_checkReady_0 rfl (lv_at hl 0 rfl) ?_
  refine lv_iload_n F.1.1 F.1.2.1 dX1_checkReady_1 rfl (lv_at hl 1 rfl) ?_
  refine lv_iload_n F.1.1 F.1.2.1 dX1_checkReady_2 rfl (lv_at hl 2 rfl) ?_
  refine mc_Vv (As := [_, _]) F hM (cs_X1_checkData l hd hn hS h_x h1 h2) (cwV 2 F.1.2.2.2.2 (lw_V q1404 q1406 qs30 q70 q1407) rfl rfl rfl (by decide +kernel) (mRm_ok (by decide) (by decide))) h_x rfl rfl rfl rfl hl.1 rfl (Nat.le_of_ble_eq_true rfl) dX1_checkReady_3 ⟨Nat.le_of_ble_eq_true rfl, Nat.le_of_ble_eq_true rfl⟩ (fun H locs hM => ?_)
  refine lv_aload_n F.1.1 F.1.2.1 dX1_checkReady_6 rfl (lv_at hl 0 rfl) ?_
  refine cg0 F hM h_x 0 (by decide) q385 (fun x h => h) rfl dX1_checkReady_7 ?_
  refine lv_iload_n F.1.1 F.1.2.1 dX1_checkReady_10 rfl (lv_at hl 1 rfl) ?_
  refine mc_Va (As := [_]) F hM (hS.q2 hd (cs_X2_hasPack l hd hn h1)) (cwV 1 F.1.2.2.2.2 (lw_V q1380 q820 q821 q71 q822) rfl rfl rfl (by decide +kernel) (mRm_ok (by decide) (by decide))) (sq_0 hS) rfl rfl rfl rfl hl.1 rfl (Nat.le_of_ble_eq_true rfl) dX1_checkReady_11 ⟨Nat.le_of_ble_eq_true rfl, Nat.le_of_ble_eq_true rfl⟩ (fun H locs hM => ?_)
  refine mc_Sv (As := [_]) F hM (cs_X1_checkState l (by rw [bI_t (show ¬ r (60 + d) = -1 by rw [hp]; exact m1_ne_nI (by omega))]; decide)) (va_cwS 1 F.1.2.2.2.2 (lw_S q1313 q1314 q70 q1315) rfl rfl rfl (by decide +kernel) (mRm_ok (by decide) (by decide))) rfl rfl hl.1 rfl (Nat.le_of_ble_eq_true rfl) dX1_checkReady_14 ⟨Nat.le_of_ble_eq_true rfl, Nat.le_of_ble_eq_true rfl⟩ (fun H locs hM => ?_)
  exact mr_vret F hQ hM ⟨rfl, rfl⟩ (Nat.le_of_ble_eq_true rfl) (Nat.le_of_ble_eq_true rfl) dX1_checkReady_17
