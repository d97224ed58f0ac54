/-! THE SYSTEM: drives, the list of packs -/
set_option maxHeartbeats 4000000 in
theorem cs_X4_strike_rHD (l : Launch) {G : mG} {ad : Nat → Nat} {n : Nat} {r : Nat → Int32} {f : Nat → UInt32} {dv : Nat → Int32} {M0 : mM} {d h : Nat} (hd : sAd n ad) (hn : n ≤ 6) (h1 : d < 4) (h2 : h < 3) : mMet l yX4_strike (ws_ yX4_strike cX4_strike 1 none) (mRm 1 0 0) [.ref (ad (40 + (4 * d + h)))] G (pPre (sM G ad n r f dv M0)) (pPost (sM G ad n (va_up (va_up (r) (16 + (4 * d + h)) (nI 1)) (32 + (4 * d + h)) (nI 0)) f dv M0) (none)) := by
  refine mMet.of (by decide +kernel) (Nat.le_of_ble_eq_true rfl) fun p e s m args below meth c A Q M hM0 F hnm hQ hM ls hl => ?_
  have hM0 : M = sM G ad n r f dv M0 := hM0
  subst hM0
  have hl : lv_has ls 1 [(0, .ref (ad (40 + (4 * d + h))))] := hl
  refine lv_aload_n F.1.1 F.1.2.1 dX4_strike_0 rfl (lv_at hl 0 rfl) ?_
  refine mr_iconst F 1 dX4_strike_1 (by decide +kernel) ?_
  refine cp4 F hM (sM_HD hd (by omega) (by omega)) 1 (by decide) q171 (fun x h => h) rfl (by first | rfl | exact nZ_bI _) (by first | rfl | exact fZ_bI _) (Nat.le_of_ble_eq_true rfl) dX4_strike_2 (fun H locs hM => ?_)
  rw [su_HD1 hd hn (by omega) (by omega) rfl] at hM
  refine lv_aload_n F.1.1 F.1.2.1 dX4_strike_5 rfl (lv_at hl 0 rfl) ?_
  refine mr_iconst F 0 dX4_strike_6 (by decide +kernel) ?_
  refine cp4 F hM (sM_HD hd (by omega) (by omega)) 2 (by decide) q175 (fun x h => h) rfl rfl rfl (Nat.le_of_ble_eq_true rfl) dX4_strike_7 (fun H locs hM => ?_)
  rw [su_HD2 hd hn (by omega) (by omega) rfl] at hM
  exact mr_vret F hQ hM ⟨rfl, rfl⟩ (Nat.le_of_ble_eq_true rfl) (Nat.le_of_ble_eq_true rfl) dX4_strike_10
set_option maxHeartbeats 4000000 in
theorem cs_X4_mend_rHD (l : Launch) {G : mG} {ad : Nat → Nat} {n : Nat} {r : Nat → Int32} {f : Nat → UInt32} {dv : Nat → Int32} {M0 : mM} {d h : Nat} (hd : sAd n ad) (hn : n ≤ 6) (h1 : d < 4) (h2 : h < 3) : mMet l yX4_mend (ws_ yX4_mend cX4_mend 1 none) (mRm 1 0 0) [.ref (ad (40 + (4 * d + h)))] G (pPre (sM G ad n r f dv M0)) (pPost (sM G ad n (nMend r d h) f dv M0) (none)) := by
  refine mMet.of (by decide +kernel) (Nat.le_of_ble_eq_true rfl) fun p e s m args below meth c A Q M hM0 F hnm hQ hM ls hl => ?_
  have hM0 : M = sM G ad n r f dv M0 := hM0
  subst hM0
  have hl : lv_has ls 1 [(0, .ref (ad (40 + (4 * d + h))))] := hl
  refine lv_aload_n F.1.1 F.1.2.1 dX4_mend_0 rfl (lv_at hl 0 rfl) ?_
  refine mr_iconst F 0 dX4_mend_1 (by decide +kernel) ?_
  refine cp4 F hM (sM_HD hd (by omega) (by omega)) 1 (by decide) q171 (fun x h => h) rfl (by first | rfl | exact nZ_bI _) (by first | rfl | exact fZ_bI _) (Nat.le_of_ble_eq_true rfl) dX4_mend_2 (fun H locs hM => ?_)
  rw [su_HD1 hd hn (by omega) (by omega) rfl] at hM
  refine lv_aload_n F.1.1 F.1.2.1 dX4_mend_5 rfl (lv_at hl 0 rfl) ?_
  refine mr_iconst F 0 dX4_mend_6 (by decide +kernel) ?_
  refine cp4 F hM (sM_HD hd (by omega) (by omega)) 2 (by decide) q175 (fun x h => h) rfl rfl rfl (Nat.le_of_ble_eq_true rfl) dX4_mend_7 (fun H locs hM => ?_)
  rw [su_HD2 hd hn (by omega) (by omega) rfl] at hM
  refine lv_aload_n F.1.1 F.1.2.1 dX4_mend_10 rfl (lv_at hl 0 rfl) ?_
  refine mr_iconst F 0 dX4_mend_11 (by decide +kernel) ?_
  refine cp4 F hM (sM_HD hd (by omega) (by omega)) 0 (by decide) q165 (fun x h => h) rfl rfl rfl (Nat.le_of_ble_eq_true rfl) dX4_mend_12 (fun H locs hM => ?_)
  rw [su_HD0 hd hn (by omega) (by omega) rfl] at hM
  exact mr_vret F hQ hM ⟨rfl, by unfold nMend; rw [va_up_sw _ _ _ (show 32 + (4 * d + h) ≠ 0 + (4 * d + h) by omega)]⟩ (Nat.le_of_ble_eq_true rfl) (Nat.le_of_ble_eq_true rfl) dX4_mend_15
set_option maxHeartbeats 4000000 in
theorem cs_X4_strike_rHS (l : Launch) {G : mG} {ad : Nat → Nat} {n : Nat} {r : Nat → Int32} {f : Nat → UInt32} {dv : Nat → Int32} {M0 : mM} {d : Nat} (hd : sAd n ad) (hn : n ≤ 6) (h1 : d < 4) : mMet l yX4_strike (ws_ yX4_strike cX4_strike 1 none) (mRm 1 0 0) [.ref (ad (40 + (4 * d + 3)))] G (pPre (sM G ad n r f dv M0)) (pPost (sM G ad n (va_up (va_up (r) (16 + (4 * d + 3)) (nI 1)) (32 + (4 * d + 3)) (nI 0)) f dv M0) (none)) := by
  refine mMet.of (by decide +kernel) (Nat.le_of_ble_eq_true rfl) fun p e s m args below meth c A Q M hM0 F hnm hQ hM ls hl => ?_
  have hM0 : M = sM G ad n r f dv M0 := hM0
  subst hM0
  have hl : lv_has ls 1 [(0, .ref (ad (40 + (4 * d + 3))))] := hl
  refine lv_aload_n F.1.1 F.1.2.1 dX4_strike_0 rfl (lv_at hl 0 rfl) ?_
  refine mr_iconst F 1 dX4_strike_1 (by decide +kernel) ?_
  refine cp3 F hM (sM_HS hd (by omega)) 1 (by decide) q171 (fun x h => h) rfl (by first | rfl | exact nZ_bI _) (by first | rfl | exact fZ_bI _) (Nat.le_of_ble_eq_true rfl) dX4_strike_2 (fun H locs hM => ?_)
  rw [su_HS1 hd hn (by omega) rfl] at hM
  refine lv_aload_n F.1.1 F.1.2.1 dX4_strike_5 rfl (lv_at hl 0 rfl) ?_
  refine mr_iconst F 0 dX4_strike_6 (by decide +kernel) ?_
  refine cp3 F hM (sM_HS hd (by omega)) 2 (by decide) q175 (fun x h => h) rfl rfl rfl (Nat.le_of_ble_eq_true rfl) dX4_strike_7 (fun H locs hM => ?_)
  rw [su_HS2 hd hn (by omega) rfl] at hM
  exact mr_vret F hQ hM ⟨rfl, rfl⟩ (Nat.le_of_ble_eq_true rfl) (Nat.le_of_ble_eq_true rfl) dX4_strike_10
set_option maxHeartbeats 4000000 in
theorem cs_X4_mend_rHS (l : Launch) {G : mG} {ad : Nat → Nat} {n : Nat} {r : Nat → Int32} {f : Nat → UInt32} {dv : Nat → Int32} {M0 : mM} {d : Nat} (hd : sAd n ad) (hn : n ≤ 6) (h1 : d < 4) : mMet l yX4_mend (ws_ yX4_mend cX4_mend 1 none) (mRm 1 0 0) [.ref (ad (40 + (4 * d + 3)))] G (pPre (sM G ad n r f dv M0)) (pPost (sM G ad n (nMend r d 3) f dv M0) (none)) := by
  refine mMet.of (by decide +kernel) (Nat.le_of_ble_eq_true rfl) fun p e s m args below meth c A Q M hM0 F hnm hQ hM ls hl => ?_
  have hM0 : M = sM G ad n r f dv M0 := hM0
  subst hM0
  have hl : lv_has ls 1 [(0, .ref (ad (40 + (4 * d + 3))))] := hl
  refine lv_aload_n F.1.1 F.1.2.1 dX4_mend_0 rfl (lv_at hl 0 rfl) ?_
  refine mr_iconst F 0 dX4_mend_1 (by decide +kernel) ?_
  refine cp3 F hM (sM_HS hd (by omega)) 1 (by decide) q171 (fun x h => h) rfl (by first | rfl | exact nZ_bI _) (by first | rfl | exact fZ_bI _) (Nat.le_of_ble_eq_true rfl) dX4_mend_2 (fun H locs hM => ?_)
  rw [su_HS1 hd hn (by omega) rfl] at hM
  refine lv_aload_n F.1.1 F.1.2.1 dX4_mend_5 rfl (lv_at hl 0 rfl) ?_
  refine mr_iconst F 0 dX4_mend_6 (by decide +kernel) ?_
  refine cp3 F hM (sM_HS hd (by omega)) 2 (by decide) q175 (fun x h => h) rfl rfl rfl (Nat.le_of_ble_eq_true rfl) dX4_mend_7 (fun H locs hM => ?_)
  rw [su_HS2 hd hn (by omega) rfl] at hM
  refine lv_aload_n F.1.1 F.1.2.1 dX4_mend_10 rfl (lv_at hl 0 rfl) ?_
  refine mr_iconst F 0 dX4_mend_11 (by decide +kernel) ?_
  refine cp3 F hM (sM_HS hd (by omega)) 0 (by decide) q165 (fun x h => h) rfl rfl rfl (Nat.le_of_ble_eq_true rfl) dX4_mend_12 (fun H locs hM => ?_)
  rw [su_HS0 hd hn (by omega) rfl] at hM
  exact mr_vret F hQ hM ⟨rfl, by unfold nMend; rw [va_up_sw _ _ _ (show 32 + (4 * d + 3) ≠ 0 + (4 * d + 3) by omega)]⟩ (Nat.le_of_ble_eq_true rfl) (Nat.le_of_ble_eq_true rfl) dX4_mend_15
set_option maxHeartbeats 4000000 in
theorem cs_X3_head_D (l : Launch) {G : mG} {ad : Nat → Nat} {n : Nat} {r : Nat → Int32} {f : Nat → UInt32} {dv : Nat → Int32} {M0 : mM} {d h : Nat} (hd : sAd n ad) (hn : n ≤ 6) (h1 : d < 4) (h2 : h < 3) : mMet l yX3_head (ws_ yX3_head cX3_head 2 (some (.object "DiskPacks$Head"))) (mRm 1 0 0) [.ref (ad (10 + d)), .int (nI h)] G (pPre (sM G ad n r f dv M0)) (pPost (sM G ad n r f dv M0) (some (.ref (ad (40 + (4 * d + h)))))) := by
  refine mMet.of (by decide +kernel) (Nat.le_of_ble_eq_true rfl) fun p e s m args below meth c A Q M hM0 F hnm hQ hM ls hl => ?_
  have hM0 : M = sM G ad n r f dv M0 := hM0
  subst hM0
  have hl : lv_has ls 2 [(0, .ref (ad (10 + d))), (1, .int (nI h))] := hl
  refine lv_iload_n F.1.1 F.1.2.1 dX3_head_0 rfl (lv_at hl 1 rfl) ?_
  refine mr_iconst F 3 dX3_head_1 (by decide +kernel) ?_
  refine mr_icmp_neN F (tgt := 12) dX3_head_2 (by decide) (by omega) (by omega) (fun c2 => ?_) (fun c2 => ?_)
  · refine lv_aload_n F.1.1 F.1.2.1 dX3_head_12 rfl (lv_at hl 0 rfl) ?_
    refine cg2 F hM (sM_D hd (by omega)) 0 (by decide) q273 (fun x h => h) rfl dX3_head_13 ?_
    refine lv_iload_n F.1.1 F.1.2.1 dX3_head_16 rfl (lv_at hl 1 rfl) ?_
    refine sr_ldA F hd hM (by omega) (by omega) dX3_head_17 ?_
    exact mr_aret F hQ (by first | exact Or.inl ⟨_, rfl⟩ | exact Or.inr ⟨_, rfl⟩) hM ⟨rfl, rfl⟩ (Nat.le_of_ble_eq_true rfl) (Nat.le_of_ble_eq_true rfl) dX3_head_18
  · exact absurd c2 (by omega)
set_option maxHeartbeats 4000000 in
theorem cs_X3_head_S (l : Launch) {G : mG} {ad : Nat → Nat} {n : Nat} {r : Nat → Int32} {f : Nat → UInt32} {dv : Nat → Int32} {M0 : mM} {d : Nat} (hd : sAd n ad) (hn : n ≤ 6) (h1 : d < 4) : mMet l yX3_head (ws_ yX3_head cX3_head 2 (some (.object "DiskPacks$Head"))) (mRm 1 0 0) [.ref (ad (10 + d)), .int (nI 3)] G (pPre (sM G ad n r f dv M0)) (pPost (sM G ad n r f dv M0) (some (.ref (ad (40 + (4 * d + 3)))))) := by
  refine mMet.of (by decide +kernel) (Nat.le_of_ble_eq_true rfl) fun p e s m args below meth c A Q M hM0 F hnm hQ hM ls hl => ?_
  have hM0 : M = sM G ad n r f dv M0 := hM0
  subst hM0
  have hl : lv_has ls 2 [(0, .ref (ad (10 + d))), (1, .int (nI 3))] := hl
  refine lv_iload_n F.1.1 F.1.2.1 dX3_head_0 rfl (lv_at hl 1 rfl) ?_
  refine mr_iconst F 3 dX3_head_1 (by decide +kernel) ?_
  refine mr_icmp_neN F (tgt := 12) dX3_head_2 (by decide) (by omega) (by omega) (fun c2 => ?_) (fun c2 => ?_)
  · exact absurd rfl c2
  · refine lv_aload_n F.1.1 F.1.2.1 dX3_head_5 rfl (lv_at hl 0 rfl) ?_
    refine cg2 F hM (sM_D hd (by omega)) 1 (by decide) q274 (fun x h => h) rfl dX3_head_6 ?_
    refine lv_goto (tgt := 18) F.1.1 F.1.2.1 dX3_head_9 (by decide) ?_
    exact mr_aret F hQ (by first | exact Or.inl ⟨_, rfl⟩ | exact Or.inr ⟨_, rfl⟩) hM ⟨rfl, rfl⟩ (Nat.le_of_ble_eq_true rfl) (Nat.le_of_ble_eq_true rfl) dX3_head_18
set_option maxHeartbeats 4000000 in
theorem cs_X3_dataHead (l : Launch) {G : mG} {ad : Nat → Nat} {n : Nat} {r : Nat → Int32} {f : Nat → UInt32} {dv : Nat → Int32} {M0 : mM} {d h : Nat} (hd : sAd n ad) (hn : n ≤ 6) (h1 : d < 4) (h2 : h < 3) : mMet l yX3_dataHead (ws_ yX3_dataHead cX3_dataHead 4 (some (.object "DiskPacks$DataHead"))) (mRm 2 0 0) [.ref (ad (10 + d)), .int (nI h)] G (pPre (sM G ad n r f dv M0)) (pPost (sM G ad n r f dv M0) (some (.ref (ad (40 + (4 * d + h)))))) := by
  refine mMet.of (by decide +kernel) (Nat.le_of_ble_eq_true rfl) fun p e s m args below meth c A Q M hM0 F hnm hQ hM ls hl => ?_
  have hM0 : M = sM G ad n r f dv M0 := hM0
  subst hM0
  have hl : lv_has ls 4 [(0, .ref (ad (10 + d))), (1, .int (nI h))] := hl
  refine lv_aload_n F.1.1 F.1.2.1 dX3_dataHead_0 rfl (lv_at hl 0 rfl) ?_
  refine lv_iload_n F.1.1 F.1.2.1 dX3_dataHead_1 rfl (lv_at hl 1 rfl) ?_
  refine mc_Va (As := [_]) F hM (cs_X3_head_D l hd hn (by omega) (by omega)) (cwV 1 F.1.2.2.2.2 (lw_V q885 q886 q887 q75 q888) rfl rfl rfl (by decide +kernel) (mRm_ok (by decide) (by decide))) (sM_D hd (by omega)) rfl rfl rfl rfl hl.1 rfl (Nat.le_of_ble_eq_true rfl) dX3_dataHead_2 ⟨Nat.le_of_ble_eq_true rfl, Nat.le_of_ble_eq_true rfl⟩ (fun H locs hM => ?_)
  refine lv_astore_n (lv' := [(2, _), (0, _), (1, _)]) F.1.1 F.1.2.1 dX3_dataHead_5 rfl hl (by decide) rfl (fun ls hl => ?_)
  refine lv_aload_n F.1.1 F.1.2.1 dX3_dataHead_6 rfl (lv_at hl 0 rfl) ?_
  refine mr_instS F hM (sM_HD hd (by omega) (by omega)) (ci := 4) rfl q154 dX3_dataHead_7 ?_
  refine mr_ifeqN F (tgt := 22) dX3_dataHead_10 (by decide) (by omega) (fun c10 => ?_) (fun c10 => ?_)
  · exact absurd c10 (by decide)
  · refine lv_aload_n F.1.1 F.1.2.1 dX3_dataHead_13 rfl (lv_at hl 0 rfl) ?_
    refine mr_castS F hM (sM_HD hd (by omega) (by omega)) (ci := 4) rfl q154 dX3_dataHead_14 ?_
    refine lv_astore_n (lv' := [(3, _), (2, _), (0, _), (1, _)]) F.1.1 F.1.2.1 dX3_dataHead_17 rfl hl (by decide) rfl (fun ls hl => ?_)
    refine lv_aload_n F.1.1 F.1.2.1 dX3_dataHead_18 rfl (lv_at hl 0 rfl) ?_
    refine lv_goto (tgt := 23) F.1.1 F.1.2.1 dX3_dataHead_19 (by decide) ?_
    exact mr_aret F hQ (by first | exact Or.inl ⟨_, rfl⟩ | exact Or.inr ⟨_, rfl⟩) hM ⟨rfl, rfl⟩ (Nat.le_of_ble_eq_true rfl) (Nat.le_of_ble_eq_true rfl) dX3_dataHead_23
set_option maxHeartbeats 4000000 in
theorem cs_X3_place (l : Launch) {G : mG} {ad : Nat → Nat} {n : Nat} {r : Nat → Int32} {f : Nat → UInt32} {dv : Nat → Int32} {M0 : mM} {d h k q0 : Nat} {w : Int32} (hd : sAd n ad) (hn : n ≤ 6) (h1 : d < 4) (h2 : h < 3) (h3 : k < 6) (h4 : q0 < 40) : mMet l yX3_place (ws_ yX3_place cX3_place 6 (some .int)) (mRm 1 0 0) [.ref (ad (10 + d)), .int (nI h), .int (nI k), .int (nI q0), .int w] G (pPre (sM G ad n r f dv M0)) (pPost (sM G ad n r f dv M0) (some (.int (nI (100 * q0) + r (0 + (4 * d + h)) + r (64 + 6 * d + k) + (if r (56 + d) = 0 then r (48 + d) else w - r (0 + (4 * d + 3))))))) := by
  refine mMet.of (by decide +kernel) (Nat.le_of_ble_eq_true rfl) fun p e s m args below meth c A Q M hM0 F hnm hQ hM ls hl => ?_
  have hM0 : M = sM G ad n r f dv M0 := hM0
  subst hM0
  have hl : lv_has ls 6 [(0, .ref (ad (10 + d))), (1, .int (nI h)), (2, .int (nI k)), (3, .int (nI q0)), (4, .int w)] := hl
  refine lv_aload_n F.1.1 F.1.2.1 dX3_place_0 rfl (lv_at hl 0 rfl) ?_
  refine cg2 F hM (sM_D hd (by omega)) 5 (by decide) q285 (fun x h => h) rfl dX3_place_1 ?_
  refine lv_if_eq (tgt := 20) F.1.1 F.1.2.1 dX3_place_4 (by decide) (fun c4 => ?_) (fun c4 => ?_)
  · have hE : (if r (56 + d) = 0 then r (48 + d) else w - r (0 + (4 * d + 3))) = r (48 + d) := if_pos c4
    refine lv_aload_n F.1.1 F.1.2.1 dX3_place_20 rfl (lv_at hl 0 rfl) ?_
    refine cg2 F hM (sM_D hd (by omega)) 3 (by decide) q279 (fun x h => h) rfl dX3_place_21 ?_
    refine lv_istore (lv' := [(5, _), (0, _), (1, _), (2, _), (3, _), (4, _)]) F.1.1 F.1.2.1 dX3_place_24 hl (by decide) rfl (fun ls hl => ?_)
    refine mr_bipush F 100 dX3_place_26 (by decide +kernel) ?_
    refine lv_iload_n F.1.1 F.1.2.1 dX3_place_28 rfl (lv_at hl 4 rfl) ?_
    refine mr_imulN F dX3_place_29 ?_
    refine lv_aload_n F.1.1 F.1.2.1 dX3_place_30 rfl (lv_at hl 1 rfl) ?_
    refine cg2 F hM (sM_D hd (by omega)) 0 (by decide) q273 (fun x h => h) rfl dX3_place_31 ?_
    refine lv_iload_n F.1.1 F.1.2.1 dX3_place_34 rfl (lv_at hl 2 rfl) ?_
    refine sr_ldA F hd hM (by omega) (by omega) dX3_place_35 ?_
    refine cg4 F hM (sM_HD hd (by omega) (by omega)) 0 (by decide) q166 (fun x h => h) rfl dX3_place_36 ?_
    refine lv_iadd F.1.1 F.1.2.1 dX3_place_39 ?_
    refine lv_aload_n F.1.1 F.1.2.1 dX3_place_40 rfl (lv_at hl 1 rfl) ?_
    refine cg2 F hM (sM_D hd (by omega)) 2 (by decide) q277 (fun x h => h) rfl dX3_place_41 ?_
    refine lv_iload_n F.1.1 F.1.2.1 dX3_place_44 rfl (lv_at hl 3 rfl) ?_
    refine sr_ldL F hd hn hM (j0 := 64 + 6 * d + k) (by omega) (by omega) (by omega) dX3_place_45 ?_
    refine lv_iadd F.1.1 F.1.2.1 dX3_place_46 ?_
    refine lv_iload F.1.1 F.1.2.1 dX3_place_47 (lv_at hl 0 rfl) ?_
    refine lv_iadd F.1.1 F.1.2.1 dX3_place_49 ?_
    exact mr_iret F hQ hM ⟨by rw [hE], rfl⟩ (Nat.le_of_ble_eq_true rfl) (Nat.le_of_ble_eq_true rfl) dX3_place_50
  · have hE : (if r (56 + d) = 0 then r (48 + d) else w - r (0 + (4 * d + 3))) = w - r (0 + (4 * d + 3)) := if_neg c4
    refine lv_iload F.1.1 F.1.2.1 dX3_place_7 (lv_at hl 4 rfl) ?_
    refine lv_aload_n F.1.1 F.1.2.1 dX3_place_9 rfl (lv_at hl 0 rfl) ?_
    refine cg2 F hM (sM_D hd (by omega)) 1 (by decide) q274 (fun x h => h) rfl dX3_place_10 ?_
    refine cg3 F hM (sM_HS hd (by omega)) 0 (by decide) q166 (fun x h => h) rfl dX3_place_13 ?_
    refine lv_isub F.1.1 F.1.2.1 dX3_place_16 ?_
    refine lv_goto (tgt := 24) F.1.1 F.1.2.1 dX3_place_17 (by decide) ?_
    refine lv_istore (lv' := [(5, _), (0, _), (1, _), (2, _), (3, _), (4, _)]) F.1.1 F.1.2.1 dX3_place_24 hl (by decide) rfl (fun ls hl => ?_)
    refine mr_bipush F 100 dX3_place_26 (by decide +kernel) ?_
    refine lv_iload_n F.1.1 F.1.2.1 dX3_place_28 rfl (lv_at hl 4 rfl) ?_
    refine mr_imulN F dX3_place_29 ?_
    refine lv_aload_n F.1.1 F.1.2.1 dX3_place_30 rfl (lv_at hl 1 rfl) ?_
    refine cg2 F hM (sM_D hd (by omega)) 0 (by decide) q273 (fun x h => h) rfl dX3_place_31 ?_
    refine lv_iload_n F.1.1 F.1.2.1 dX3_place_34 rfl (lv_at hl 2 rfl) ?_
    refine sr_ldA F hd hM (by omega) (by omega) dX3_place_35 ?_
    refine cg4 F hM (sM_HD hd (by omega) (by omega)) 0 (by decide) q166 (fun x h => h) rfl dX3_place_36 ?_
    refine lv_iadd F.1.1 F.1.2.1 dX3_place_39 ?_
    refine lv_aload_n F.1.1 F.1.2.1 dX3_place_40 rfl (lv_at hl 1 rfl) ?_
    refine cg2 F hM (sM_D hd (by omega)) 2 (by decide) q277 (fun x h => h) rfl dX3_place_41 ?_
    refine lv_iload_n F.1.1 F.1.2.1 dX3_place_44 rfl (lv_at hl 3 rfl) ?_
    refine sr_ldL F hd hn hM (j0 := 64 + 6 * d + k) (by omega) (by omega) (by omega) dX3_place_45 ?_
    refine lv_iadd F.1.1 F.1.2.1 dX3_place_46 ?_
    refine lv_iload F.1.1 F.1.2.1 dX3_place_47 (lv_at hl 0 rfl) ?_
    refine lv_iadd F.1.1 F.1.2.1 dX3_place_49 ?_
    exact mr_iret F hQ hM ⟨by rw [hE], rfl⟩ (Nat.le_of_ble_eq_true rfl) (Nat.le_of_ble_eq_true rfl) dX3_place_50
set_option maxHeartbeats 4000000 in
theorem cs_X3_learn (l : Launch) {G : mG} {ad : Nat → Nat} {n : Nat} {r : Nat → Int32} {f : Nat → UInt32} {dv : Nat → Int32} {M0 : mM} {d k : Nat} {x : Int32} (hd : sAd n ad) (hn : n ≤ 6) (h1 : d < 4) (h3 : k < 6) : mMet l yX3_learn (ws_ yX3_learn cX3_learn 4 none) (mRm 1 0 0) [.ref (ad (10 + d)), .int (nI k), .int x] G (pPre (sM G ad n r f dv M0)) (pPost (sM G ad n (va_up r (64 + 6 * d + k) (nClip (r (64 + 6 * d + k) + x))) f dv M0) (none)) := by
  refine mMet.of (by decide +kernel) (Nat.le_of_ble_eq_true rfl) fun p e s m args below meth c A Q M hM0 F hnm hQ hM ls hl => ?_
  have hM0 : M = sM G ad n r f dv M0 := hM0
  subst hM0
  have hl : lv_has ls 4 [(0, .ref (ad (10 + d))), (1, .int (nI k)), (2, .int x)] := hl
  refine lv_aload_n F.1.1 F.1.2.1 dX3_learn_0 rfl (lv_at hl 0 rfl) ?_
  refine cg2 F hM (sM_D hd (by omega)) 2 (by decide) q277 (fun x h => h) rfl dX3_learn_1 ?_
  refine lv_iload_n F.1.1 F.1.2.1 dX3_learn_4 rfl (lv_at hl 1 rfl) ?_
  refine sr_ldL F hd hn hM (j0 := 64 + 6 * d + k) (by omega) (by omega) (by omega) dX3_learn_5 ?_
  refine lv_iload_n F.1.1 F.1.2.1 dX3_learn_6 rfl (lv_at hl 2 rfl) ?_
  refine lv_iadd F.1.1 F.1.2.1 dX3_learn_7 ?_
  refine lv_istore_n (lv' := [(3, _), (0, _), (1, _), (2, _)]) F.1.1 F.1.2.1 dX3_learn_8 rfl hl (by decide) rfl (fun ls hl => ?_)
  refine lv_aload_n F.1.1 F.1.2.1 dX3_learn_9 rfl (lv_at hl 1 rfl) ?_
  refine cg2 F hM (sM_D hd (by omega)) 2 (by decide) q277 (fun x h => h) rfl dX3_learn_10 ?_
  refine lv_iload_n F.1.1 F.1.2.1 dX3_learn_13 rfl (lv_at hl 2 rfl) ?_
  refine lv_iload_n F.1.1 F.1.2.1 dX3_learn_14 rfl (lv_at hl 0 rfl) ?_
  refine mr_bipush F 40 dX3_learn_15 (by decide +kernel) ?_
  refine lv_icmp_le (tgt := 25) F.1.1 F.1.2.1 dX3_learn_17 (by decide) (fun c17 => ?_) (fun c17 => ?_)
  · refine lv_iload_n F.1.1 F.1.2.1 dX3_learn_25 rfl (lv_at hl 0 rfl) ?_
    refine lv_bipush (v := -40) F.1.1 F.1.2.1 dX3_learn_26 (by decide +kernel) ?_
    refine lv_icmp_ge (tgt := 36) F.1.1 F.1.2.1 dX3_learn_28 (by decide) (fun c28 => ?_) (fun c28 => ?_)
    · have hE : nClip (r (64 + 6 * d + k) + x) = (r (64 + 6 * d + k) + x) := by unfold nClip; rw [if_neg (Int32.not_lt.mpr c17), if_neg (Int32.not_lt.mpr c28)]
      refine lv_iload_n F.1.1 F.1.2.1 dX3_learn_36 rfl (lv_at hl 0 rfl) ?_
      refine sr_stL F hd hn hM (j0 := 64 + 6 * d + k) (by omega) (by omega) (by omega) dX3_learn_37 (fun H locs hM => ?_)
      exact mr_vret F hQ hM ⟨rfl, by rw [hE] <;> rfl⟩ (Nat.le_of_ble_eq_true rfl) (Nat.le_of_ble_eq_true rfl) dX3_learn_38
    · have hE : nClip (r (64 + 6 * d + k) + x) = -40 := by unfold nClip; rw [if_neg (Int32.not_lt.mpr c17), if_pos (Int32.not_le.mp c28)]
      refine lv_bipush (v := -40) F.1.1 F.1.2.1 dX3_learn_31 (by decide +kernel) ?_
      refine lv_goto (tgt := 37) F.1.1 F.1.2.1 dX3_learn_33 (by decide) ?_
      refine sr_stL F hd hn hM (j0 := 64 + 6 * d + k) (by omega) (by omega) (by omega) dX3_learn_37 (fun H locs hM => ?_)
      exact mr_vret F hQ hM ⟨rfl, by rw [hE] <;> rfl⟩ (Nat.le_of_ble_eq_true rfl) (Nat.le_of_ble_eq_true rfl) dX3_learn_38
  · have hE : nClip (r (64 + 6 * d + k) + x) = nI 40 := if_pos (Int32.not_le.mp c17)
    refine mr_bipush F 40 dX3_learn_20 (by decide +kernel) ?_
    refine lv_goto (tgt := 37) F.1.1 F.1.2.1 dX3_learn_22 (by decide) ?_
    refine sr_stL F hd hn hM (j0 := 64 + 6 * d + k) (by omega) (by omega) (by omega) dX3_learn_37 (fun H locs hM => ?_)
    exact mr_vret F hQ hM ⟨rfl, by rw [hE] <;> rfl⟩ (Nat.le_of_ble_eq_true rfl) (Nat.le_of_ble_eq_true rfl) dX3_learn_38
set_option maxHeartbeats 4000000 in
theorem cs_X2_hasPack (l : Launch) {G : mG} {ad : Nat → Nat} {n : Nat} {r : Nat → Int32} {f : Nat → UInt32} {dv : Nat → Int32} {M0 : mM} {d : Nat} (hd : sAd n ad) (hn : n ≤ 6) (h1 : d < 4) : mMet l yX2_hasPack (ws_ yX2_hasPack cX2_hasPack 2 (some .boolean)) (mRm 1 0 0) [.ref (ad 0), .int (nI d)] G (pPre (sM G ad n r f dv M0)) (pPost (sM G ad n r f dv M0) (some (.int (bI (¬ r (60 + d) = -1))))) := by
  refine mMet.of (by decide +kernel) (Nat.le_of_ble_eq_true rfl) fun p e s m args below meth c A Q M hM0 F hnm hQ hM ls hl => ?_
  have hM0 : M = sM G ad n r f dv M0 := hM0
  subst hM0
  have hl : lv_has ls 2 [(0, .ref (ad 0)), (1, .int (nI d))] := hl
  refine lv_aload_n F.1.1 F.1.2.1 dX2_hasPack_0 rfl (lv_at hl 0 rfl) ?_
  refine cg1 F hM (sM_0 hd) 0 (by decide) q306 (fun x h => h) rfl dX2_hasPack_1 ?_
  refine lv_iload_n F.1.1 F.1.2.1 dX2_hasPack_4 rfl (lv_at hl 1 rfl) ?_
  refine sr_ld1 F hd hM (by omega) dX2_hasPack_5 ?_
  refine cg2 F hM (sM_D hd (by omega)) 6 (by decide) q289 (fun x h => h) rfl dX2_hasPack_6 ?_
  refine lv_iconst (v := -1) F.1.1 F.1.2.1 dX2_hasPack_9 (by decide +kernel) ?_
  refine lv_icmp_eq (tgt := 17) F.1.1 F.1.2.1 dX2_hasPack_10 (by decide) (fun c10 => ?_) (fun c10 => ?_)
  · have hE : bI (¬ r (60 + d) = -1) = nI 0 := bI_f (fun q => q c10)
    refine mr_iconst F 0 dX2_hasPack_17 (by decide +kernel) ?_
    exact mr_zret F hQ (by first | rfl | exact nZ_bI _) hM ⟨by rw [hE], rfl⟩ (Nat.le_of_ble_eq_true rfl) (Nat.le_of_ble_eq_true rfl) dX2_hasPack_18
  · have hE : bI (¬ r (60 + d) = -1) = nI 1 := bI_t c10
    refine mr_iconst F 1 dX2_hasPack_13 (by decide +kernel) ?_
    refine lv_goto (tgt := 18) F.1.1 F.1.2.1 dX2_hasPack_14 (by decide) ?_
    exact mr_zret F hQ (by first | rfl | exact nZ_bI _) hM ⟨by rw [hE], rfl⟩ (Nat.le_of_ble_eq_true rfl) (Nat.le_of_ble_eq_true rfl) dX2_hasPack_18
set_option maxHeartbeats 4000000 in
theorem cs_X2_offset (l : Launch) {G : mG} {M0 : mM} {k : Nat} (h1 : k < 17) : mMet l yX2_offset (ws_ yX2_offset cX2_offset 2 (some .int)) (mRm 1 0 0) [.int (nI k)] G (pPre (M0)) (pPost (M0) (some (.int (mTr k)))) := by
  refine mMet.of (by decide +kernel) (Nat.le_of_ble_eq_true rfl) fun p e s m args below meth c A Q M hM0 F hnm hQ hM ls hl => ?_
  have hM0 : M0 = M := hM0.symm
  subst hM0
  have hl : lv_has ls 2 [(0, .int (nI k))] := hl
  refine lv_iload_n F.1.1 F.1.2.1 dX2_offset_0 rfl (lv_at hl 0 rfl) ?_
  refine mr_iconst F 1 dX2_offset_1 (by decide +kernel) ?_
  refine mr_iaddN F dX2_offset_2 ?_
  refine mr_iconst F 2 dX2_offset_3 (by decide +kernel) ?_
  refine lv_idiv F.1.1 F.1.2.1 dX2_offset_4 (by decide) ?_
  refine mr_iconst F 5 dX2_offset_5 (by decide +kernel) ?_
  refine lv_imul F.1.1 F.1.2.1 dX2_offset_6 ?_
  refine lv_istore_n (lv' := [(1, _), (0, _)]) F.1.1 F.1.2.1 dX2_offset_7 rfl hl (by decide) rfl (fun ls hl => ?_)
  refine lv_iload_n F.1.1 F.1.2.1 dX2_offset_8 rfl (lv_at hl 1 rfl) ?_
  refine mr_iconst F 2 dX2_offset_9 (by decide +kernel) ?_
  refine lv_irem F.1.1 F.1.2.1 dX2_offset_10 (by decide) ?_
  refine mr_iconst F 1 dX2_offset_11 (by decide +kernel) ?_
  refine lv_icmp_ne (tgt := 19) F.1.1 F.1.2.1 dX2_offset_12 (by decide) (fun c12 => ?_) (fun c12 => ?_)
  · refine lv_iload_n F.1.1 F.1.2.1 dX2_offset_19 rfl (lv_at hl 0 rfl) ?_
    refine lv_ineg F.1.1 F.1.2.1 dX2_offset_20 ?_
    exact mr_iret F hQ hM ⟨by rw [so_f h1 c12], rfl⟩ (Nat.le_of_ble_eq_true rfl) (Nat.le_of_ble_eq_true rfl) dX2_offset_21
  · refine lv_iload_n F.1.1 F.1.2.1 dX2_offset_15 rfl (lv_at hl 0 rfl) ?_
    refine lv_goto (tgt := 21) F.1.1 F.1.2.1 dX2_offset_16 (by decide) ?_
    exact mr_iret F hQ hM ⟨by rw [so_t h1 c12], rfl⟩ (Nat.le_of_ble_eq_true rfl) (Nat.le_of_ble_eq_true rfl) dX2_offset_21
set_option maxHeartbeats 4000000 in
theorem cs_J16_checkIndex (l : Launch) {G : mG} {M0 : mM} {i k : Nat} (h1 : i < k) (h2 : k < 100000) : mMet l yJ16_checkIndex (ws_ yJ16_checkIndex cJ16_checkIndex 3 (some .int)) (mRm 1 0 0) [.int (nI i), .int (nI k), .null] G (pPre (M0)) (pPost (M0) (some (.int (nI i)))) := by
  refine mMet.of (by decide +kernel) (Nat.le_of_ble_eq_true rfl) fun p e s m args below meth c A Q M hM0 F hnm hQ hM ls hl => ?_
  have hM0 : M0 = M := hM0.symm
  subst hM0
  have hl : lv_has ls 3 [(0, .int (nI i)), (1, .int (nI k)), (2, .null)] := hl
  refine lv_iload_n F.1.1 F.1.2.1 dJ16_checkIndex_0 rfl (lv_at hl 0 rfl) ?_
  refine lv_if_lt (tgt := 9) F.1.1 F.1.2.1 dJ16_checkIndex_1 (by decide) (fun c1 => ?_) (fun c1 => ?_)
  · exact absurd c1 (nI_neg (by omega))
  · refine lv_iload_n F.1.1 F.1.2.1 dJ16_checkIndex_4 rfl (lv_at hl 0 rfl) ?_
    refine lv_iload_n F.1.1 F.1.2.1 dJ16_checkIndex_5 rfl (lv_at hl 1 rfl) ?_
    refine mr_icmp_ltN F (tgt := 16) dJ16_checkIndex_6 (by decide) (by omega) (by omega) (fun c6 => ?_) (fun c6 => ?_)
    · refine lv_iload_n F.1.1 F.1.2.1 dJ16_checkIndex_16 rfl (lv_at hl 0 rfl) ?_
      exact mr_iret F hQ hM ⟨rfl, rfl⟩ (Nat.le_of_ble_eq_true rfl) (Nat.le_of_ble_eq_true rfl) dJ16_checkIndex_17
    · exact absurd h1 c6
set_option maxHeartbeats 4000000 in
theorem cs_J15_checkIndex (l : Launch) {G : mG} {M0 : mM} {i k : Nat} (h1 : i < k) (h2 : k < 100000) : mMet l yJ15_checkIndex (ws_ yJ15_checkIndex cJ15_checkIndex 2 (some .int)) (mRm 2 0 0) [.int (nI i), .int (nI k)] G (pPre (M0)) (pPost (M0) (some (.int (nI i)))) := by
  refine mMet.of (by decide +kernel) (Nat.le_of_ble_eq_true rfl) fun p e s m args below meth c A Q M hM0 F hnm hQ hM ls hl => ?_
  have hM0 : M0 = M := hM0.symm
  subst hM0
  have hl : lv_has ls 2 [(0, .int (nI i)), (1, .int (nI k))] := hl
  refine lv_iload_n F.1.1 F.1.2.1 dJ15_checkIndex_0 rfl (lv_at hl 0 rfl) ?_
  refine lv_iload_n F.1.1 F.1.2.1 dJ15_checkIndex_1 rfl (lv_at hl 1 rfl) ?_
  refine lv_null F.1.1 F.1.2.1 dJ15_checkIndex_2 ?_
  refine mc_Sa (As := [_, _, _]) F hM (cs_J16_checkIndex l (by omega) (by omega)) (va_cwS 3 F.1.2.2.2.2 (lw_S q838 q780 q93 q781) rfl rfl rfl (by decide +kernel) (mRm_ok (by decide) (by decide))) rfl rfl hl.1 rfl (Nat.le_of_ble_eq_true rfl) dJ15_checkIndex_3 ⟨Nat.le_of_ble_eq_true rfl, Nat.le_of_ble_eq_true rfl⟩ (fun H locs hM => ?_)
  exact mr_iret F hQ hM ⟨rfl, rfl⟩ (Nat.le_of_ble_eq_true rfl) (Nat.le_of_ble_eq_true rfl) dJ15_checkIndex_6
set_option maxHeartbeats 4000000 in
theorem cs_J2_size (l : Launch) {G : mG} {ad : Nat → Nat} {n : Nat} {r : Nat → Int32} {f : Nat → UInt32} {dv : Nat → Int32} {M0 : mM}  (hd : sAd n ad) (hn : n ≤ 6) : mMet l yJ2_size (ws_ yJ2_size cJ2_size 1 (some .int)) (mRm 1 0 0) [.ref (ad 2)] G (pPre (sM G ad n r f dv M0)) (pPost (sM G ad n r f dv M0) (some (.int (nI n)))) := by
  refine mMet.of (by decide +kernel) (Nat.le_of_ble_eq_true rfl) fun p e s m args below meth c A Q M hM0 F hnm hQ hM ls hl => ?_
  have hM0 : M = sM G ad n r f dv M0 := hM0
  subst hM0
  have hl : lv_has ls 1 [(0, .ref (ad 2))] := hl
  refine lv_aload_n F.1.1 F.1.2.1 dJ2_size_0 rfl (lv_at hl 0 rfl) ?_
  refine cg9 F hM (sM_2 hd) 2 (by decide) q138 (fun x h => h) rfl dJ2_size_1 ?_
  exact mr_iret F hQ hM ⟨rfl, rfl⟩ (Nat.le_of_ble_eq_true rfl) (Nat.le_of_ble_eq_true rfl) dJ2_size_4
set_option maxHeartbeats 4000000 in
theorem cs_J2_elementData (l : Launch) {G : mG} {ad : Nat → Nat} {n : Nat} {r : Nat → Int32} {f : Nat → UInt32} {dv : Nat → Int32} {M0 : mM} {k : Nat} (hd : sAd n ad) (hn : n ≤ 6) (h1 : k < n) : mMet l yJ2_elementData (ws_ yJ2_elementData cJ2_elementData 2 (some (.object "java/lang/Object"))) (mRm 1 0 0) [.ref (ad 2), .int (nI k)] G (pPre (sM G ad n r f dv M0)) (pPost (sM G ad n r f dv M0) (some (.ref (ad (60 + k))))) := by
  refine mMet.of (by decide +kernel) (Nat.le_of_ble_eq_true rfl) fun p e s m args below meth c A Q M hM0 F hnm hQ hM ls hl => ?_
  have hM0 : M = sM G ad n r f dv M0 := hM0
  subst hM0
  have hl : lv_has ls 2 [(0, .ref (ad 2)), (1, .int (nI k))] := hl
  refine lv_aload_n F.1.1 F.1.2.1 dJ2_elementData_0 rfl (lv_at hl 0 rfl) ?_
  refine cg9 F hM (sM_2 hd) 1 (by decide) q137 (fun x h => h) (congrArg (fun z => some (Value.ref z)) (if_neg (by omega))) dJ2_elementData_1 ?_
  refine lv_iload_n F.1.1 F.1.2.1 dJ2_elementData_4 rfl (lv_at hl 1 rfl) ?_
  refine mr_aald F.1.1 F.1.2.1 F.2.1 hM 4 (sM_3 hd (by omega)) rfl (by omega) (by omega) (sSa_rf (by omega) rfl) dJ2_elementData_5 ?_
  exact mr_aret F hQ (by first | exact Or.inl ⟨_, rfl⟩ | exact Or.inr ⟨_, rfl⟩) hM ⟨rfl, rfl⟩ (Nat.le_of_ble_eq_true rfl) (Nat.le_of_ble_eq_true rfl) dJ2_elementData_6
set_option maxHeartbeats 4000000 in
theorem cs_J2_get (l : Launch) {G : mG} {ad : Nat → Nat} {n : Nat} {r : Nat → Int32} {f : Nat → UInt32} {dv : Nat → Int32} {M0 : mM} {k : Nat} (hd : sAd n ad) (hn : n ≤ 6) (h1 : k < n) : mMet l yJ2_get (ws_ yJ2_get cJ2_get 2 (some (.object "java/lang/Object"))) (mRm 3 0 0) [.ref (ad 2), .int (nI k)] G (pPre (sM G ad n r f dv M0)) (pPost (sM G ad n r f dv M0) (some (.ref (ad (60 + k))))) := by
  refine mMet.of (by decide +kernel) (Nat.le_of_ble_eq_true rfl) fun p e s m args below meth c A Q M hM0 F hnm hQ hM ls hl => ?_
  have hM0 : M = sM G ad n r f dv M0 := hM0
  subst hM0
  have hl : lv_has ls 2 [(0, .ref (ad 2)), (1, .int (nI k))] := hl
  refine lv_iload_n F.1.1 F.1.2.1 dJ2_get_0 rfl (lv_at hl 1 rfl) ?_
  refine lv_aload_n F.1.1 F.1.2.1 dJ2_get_1 rfl (lv_at hl 0 rfl) ?_
  refine cg9 F hM (sM_2 hd) 2 (by decide) q138 (fun x h => h) rfl dJ2_get_2 ?_
  refine mc_Sa (As := [_, _]) F hM (cs_J15_checkIndex l (by omega) (by omega)) (va_cwS 2 F.1.2.2.2.2 (lw_S q835 q836 q92 q837) rfl rfl rfl (by decide +kernel) (mRm_ok (by decide) (by decide))) rfl rfl hl.1 rfl (Nat.le_of_ble_eq_true rfl) dJ2_get_5 ⟨Nat.le_of_ble_eq_true rfl, Nat.le_of_ble_eq_true rfl⟩ (fun H locs hM => ?_)
  refine lv_pop F.1.1 F.1.2.1 dJ2_get_8 rfl ?_
  refine lv_aload_n F.1.1 F.1.2.1 dJ2_get_9 rfl (lv_at hl 0 rfl) ?_
  refine lv_iload_n F.1.1 F.1.2.1 dJ2_get_10 rfl (lv_at hl 1 rfl) ?_
  refine mc_Va (As := [_]) F hM (cs_J2_elementData l hd hn (by omega)) (cwV 1 F.1.2.2.2.2 (lw_V q839 q840 q841 q74 q842) rfl rfl rfl (by decide +kernel) (mRm_ok (by decide) (by decide))) (sM_2 hd) rfl rfl rfl rfl hl.1 rfl (Nat.le_of_ble_eq_true rfl) dJ2_get_11 ⟨Nat.le_of_ble_eq_true rfl, Nat.le_of_ble_eq_true rfl⟩ (fun H locs hM => ?_)
  exact mr_aret F hQ (by first | exact Or.inl ⟨_, rfl⟩ | exact Or.inr ⟨_, rfl⟩) hM ⟨rfl, rfl⟩ (Nat.le_of_ble_eq_true rfl) (Nat.le_of_ble_eq_true rfl) dJ2_get_14
