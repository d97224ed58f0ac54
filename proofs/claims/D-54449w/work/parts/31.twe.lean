/-! THE REFERENCE: what it tells -/
set_option maxHeartbeats 4000000 in
theorem ct_about (l : Launch) {G : mG} {ad : Nat → Nat} {g r : Nat → Int32} {f : Nat → UInt32} {h : tH} {b : Nat → Int32} {M0 : mM} {x z : Int32} {fl : Nat} (hd : tAd ad) (hfl : fl ≤ 32) : mMet l yX7_about (ws_ yX7_about cX7_about 4 (some .int)) (mRm 3 0 0) [.ref (ad 0), .int x, .int z, .int (nI fl)] G (pPre (tM G ad g r f h b M0)) (qPost (kHead x z) (.int (nI 0)) (.int (r (fl + (4 * nD x + nD z)))) (tM G ad (va_up g 10 (nI (kHead x z))) r f h b M0) (tM G ad (va_up g 10 (nI 0)) r f h b M0)) := by
  refine mMet.of (by decide +kernel) (Nat.le_of_ble_eq_true rfl) fun p e s m args below meth c A Q M hM0 F hnm hQ hM ls hl => ?_
  have hM0 : M = tM G ad g r f h b M0 := hM0
  subst hM0
  have hl : lv_has ls 4 [(0, .ref (ad 0)), (1, .int x), (2, .int z), (3, .int (nI fl))] := hl
  refine lv_aload_n F.1.1 F.1.2.1 dX7_about_0 rfl (lv_at hl 0 rfl) ?_
  refine mr_iconst F 0 dX7_about_1 (by decide +kernel) ?_
  refine tr_put F hd hM 10 (by decide) q1730 rfl rfl rfl (tw_s10 _ _ _) dX7_about_2 (fun H locs hM => ?_)
  refine lv_iload_n F.1.1 F.1.2.1 dX7_about_5 rfl (lv_at hl 1 rfl) ?_
  refine mc_Sa (As := [_]) F hM (ct_isDrive l ) (va_cwS 1 F.1.2.2.2.2 (lw_S q1780 q1781 q88 q1782) rfl rfl rfl (by decide +kernel) (mRm_ok (by decide) (by decide))) rfl rfl hl.1 rfl (Nat.le_of_ble_eq_true rfl) dX7_about_6 ⟨Nat.le_of_ble_eq_true rfl, Nat.le_of_ble_eq_true rfl⟩ (fun H locs hM => ?_)
  refine mr_ifeqB F (tgt := 34) dX7_about_9 (by decide) (fun c9 => ?_) (fun c9 => ?_)
  · have hv : kHead x z = 1 := by unfold kHead; exact cd1_1 (fun q => c9 q.1)
    refine lv_aload_n F.1.1 F.1.2.1 dX7_about_34 rfl (lv_at hl 0 rfl) ?_
    refine mr_iconst F 1 dX7_about_35 (by decide +kernel) ?_
    refine mc_Va (As := [_]) F hM (ct_fails l hd ) (cwV 1 F.1.2.2.2.2 (lw_V q1789 q1791 qs34 q88 q1792) rfl rfl rfl (by decide +kernel) (mRm_ok (by decide) (by decide))) (tM_0 hd) rfl rfl rfl rfl hl.1 rfl (Nat.le_of_ble_eq_true rfl) dX7_about_36 ⟨Nat.le_of_ble_eq_true rfl, Nat.le_of_ble_eq_true rfl⟩ (fun H locs hM => ?_)
    exact mr_iret F hQ hM (by first | exact Or.inl ⟨by rw [hv]; decide, rfl, by rw [hv, bx_uu]⟩ | exact Or.inr ⟨hv, by simp only [ed, en], rfl⟩) (Nat.le_of_ble_eq_true rfl) (Nat.le_of_ble_eq_true rfl) dX7_about_39
  · refine lv_iload_n F.1.1 F.1.2.1 dX7_about_12 rfl (lv_at hl 2 rfl) ?_
    refine mc_Sa (As := [_]) F hM (ct_isHead l ) (va_cwS 1 F.1.2.2.2.2 (lw_S q1786 q1787 q88 q1788) rfl rfl rfl (by decide +kernel) (mRm_ok (by decide) (by decide))) rfl rfl hl.1 rfl (Nat.le_of_ble_eq_true rfl) dX7_about_13 ⟨Nat.le_of_ble_eq_true rfl, Nat.le_of_ble_eq_true rfl⟩ (fun H locs hM => ?_)
    refine mr_ifeqB F (tgt := 34) dX7_about_16 (by decide) (fun c16 => ?_) (fun c16 => ?_)
    · have hv : kHead x z = 1 := by unfold kHead; exact cd1_1 (fun q => c16 q.2)
      refine lv_aload_n F.1.1 F.1.2.1 dX7_about_34 rfl (lv_at hl 0 rfl) ?_
      refine mr_iconst F 1 dX7_about_35 (by decide +kernel) ?_
      refine mc_Va (As := [_]) F hM (ct_fails l hd ) (cwV 1 F.1.2.2.2.2 (lw_V q1789 q1791 qs34 q88 q1792) rfl rfl rfl (by decide +kernel) (mRm_ok (by decide) (by decide))) (tM_0 hd) rfl rfl rfl rfl hl.1 rfl (Nat.le_of_ble_eq_true rfl) dX7_about_36 ⟨Nat.le_of_ble_eq_true rfl, Nat.le_of_ble_eq_true rfl⟩ (fun H locs hM => ?_)
      exact mr_iret F hQ hM (by first | exact Or.inl ⟨by rw [hv]; decide, rfl, by rw [hv, bx_uu]⟩ | exact Or.inr ⟨hv, by simp only [ed, en], rfl⟩) (Nat.le_of_ble_eq_true rfl) (Nat.le_of_ble_eq_true rfl) dX7_about_39
    · have hv : kHead x z = 0 := by unfold kHead; exact cd1_0 ⟨c9, c16⟩
      obtain ⟨d, hd4, rfl⟩ := c9
      obtain ⟨n, hn4, rfl⟩ := c16
      have ed := nD_nI (show d < 2 ^ 31 by omega)
      have en := nD_nI (show n < 2 ^ 31 by omega)
      refine lv_aload_n F.1.1 F.1.2.1 dX7_about_19 rfl (lv_at hl 0 rfl) ?_
      refine tr_get F hd hM 0 (by decide) q1720 rfl dX7_about_20 ?_
      refine lv_iload_n F.1.1 F.1.2.1 dX7_about_23 rfl (lv_at hl 3 rfl) ?_
      refine lv_iload_n F.1.1 F.1.2.1 dX7_about_24 rfl (lv_at hl 1 rfl) ?_
      refine lv_iload_n F.1.1 F.1.2.1 dX7_about_25 rfl (lv_at hl 2 rfl) ?_
      refine mc_Sa (As := [_, _]) F hM (ct_head l ) (va_cwS 2 F.1.2.2.2.2 (lw_S q1793 q1794 q88 q1795) rfl rfl rfl (by decide +kernel) (mRm_ok (by decide) (by decide))) rfl rfl hl.1 rfl (Nat.le_of_ble_eq_true rfl) dX7_about_26 ⟨Nat.le_of_ble_eq_true rfl, Nat.le_of_ble_eq_true rfl⟩ (fun H locs hM => ?_)
      refine mr_iaddN F dX7_about_29 ?_
      refine tr_ld1 F hd hM (by omega) rfl dX7_about_30 ?_
      refine lv_goto (tgt := 39) F.1.1 F.1.2.1 dX7_about_31 (by decide) ?_
      exact mr_iret F hQ hM (by first | exact Or.inl ⟨by rw [hv]; decide, rfl, by rw [hv, bx_uu]⟩ | exact Or.inr ⟨hv, by simp only [ed, en], rfl⟩) (Nat.le_of_ble_eq_true rfl) (Nat.le_of_ble_eq_true rfl) dX7_about_39
set_option maxHeartbeats 4000000 in
theorem ct_ofDrive (l : Launch) {G : mG} {ad : Nat → Nat} {g r : Nat → Int32} {f : Nat → UInt32} {h : tH} {b : Nat → Int32} {M0 : mM} {x : Int32} {fl : Nat} (hd : tAd ad) (hfl : fl ≤ 60) : mMet l yX7_ofDrive (ws_ yX7_ofDrive cX7_ofDrive 3 (some .int)) (mRm 3 0 0) [.ref (ad 0), .int x, .int (nI fl)] G (pPre (tM G ad g r f h b M0)) (qPost (kDrive x) (.int (nI 0)) (.int (r (fl + nD x))) (tM G ad (va_up g 10 (nI (kDrive x))) r f h b M0) (tM G ad (va_up g 10 (nI 0)) r f h b M0)) := by
  refine mMet.of (by decide +kernel) (Nat.le_of_ble_eq_true rfl) fun p e s m args below meth c A Q M hM0 F hnm hQ hM ls hl => ?_
  have hM0 : M = tM G ad g r f h b M0 := hM0
  subst hM0
  have hl : lv_has ls 3 [(0, .ref (ad 0)), (1, .int x), (2, .int (nI fl))] := hl
  refine lv_aload_n F.1.1 F.1.2.1 dX7_ofDrive_0 rfl (lv_at hl 0 rfl) ?_
  refine mr_iconst F 0 dX7_ofDrive_1 (by decide +kernel) ?_
  refine tr_put F hd hM 10 (by decide) q1730 rfl rfl rfl (tw_s10 _ _ _) dX7_ofDrive_2 (fun H locs hM => ?_)
  refine lv_iload_n F.1.1 F.1.2.1 dX7_ofDrive_5 rfl (lv_at hl 1 rfl) ?_
  refine mc_Sa (As := [_]) F hM (ct_isDrive l ) (va_cwS 1 F.1.2.2.2.2 (lw_S q1780 q1781 q88 q1782) rfl rfl rfl (by decide +kernel) (mRm_ok (by decide) (by decide))) rfl rfl hl.1 rfl (Nat.le_of_ble_eq_true rfl) dX7_ofDrive_6 ⟨Nat.le_of_ble_eq_true rfl, Nat.le_of_ble_eq_true rfl⟩ (fun H locs hM => ?_)
  refine mr_ifeqB F (tgt := 23) dX7_ofDrive_9 (by decide) (fun c9 => ?_) (fun c9 => ?_)
  · have hv : kDrive x = 1 := by unfold kDrive; exact cd1_1 c9
    refine lv_aload_n F.1.1 F.1.2.1 dX7_ofDrive_23 rfl (lv_at hl 0 rfl) ?_
    refine mr_iconst F 1 dX7_ofDrive_24 (by decide +kernel) ?_
    refine mc_Va (As := [_]) F hM (ct_fails l hd ) (cwV 1 F.1.2.2.2.2 (lw_V q1789 q1791 qs34 q88 q1792) rfl rfl rfl (by decide +kernel) (mRm_ok (by decide) (by decide))) (tM_0 hd) rfl rfl rfl rfl hl.1 rfl (Nat.le_of_ble_eq_true rfl) dX7_ofDrive_25 ⟨Nat.le_of_ble_eq_true rfl, Nat.le_of_ble_eq_true rfl⟩ (fun H locs hM => ?_)
    exact mr_iret F hQ hM (by first | exact Or.inl ⟨by rw [hv]; decide, rfl, by rw [hv, bx_uu]⟩ | exact Or.inr ⟨hv, by simp only [ed], rfl⟩) (Nat.le_of_ble_eq_true rfl) (Nat.le_of_ble_eq_true rfl) dX7_ofDrive_28
  · have hv : kDrive x = 0 := by unfold kDrive; exact cd1_0 c9
    obtain ⟨d, hd4, rfl⟩ := c9
    have ed := nD_nI (show d < 2 ^ 31 by omega)
    refine lv_aload_n F.1.1 F.1.2.1 dX7_ofDrive_12 rfl (lv_at hl 0 rfl) ?_
    refine tr_get F hd hM 0 (by decide) q1720 rfl dX7_ofDrive_13 ?_
    refine lv_iload_n F.1.1 F.1.2.1 dX7_ofDrive_16 rfl (lv_at hl 2 rfl) ?_
    refine lv_iload_n F.1.1 F.1.2.1 dX7_ofDrive_17 rfl (lv_at hl 1 rfl) ?_
    refine mr_iaddN F dX7_ofDrive_18 ?_
    refine tr_ld1 F hd hM (by omega) rfl dX7_ofDrive_19 ?_
    refine lv_goto (tgt := 28) F.1.1 F.1.2.1 dX7_ofDrive_20 (by decide) ?_
    exact mr_iret F hQ hM (by first | exact Or.inl ⟨by rw [hv]; decide, rfl, by rw [hv, bx_uu]⟩ | exact Or.inr ⟨hv, by simp only [ed], rfl⟩) (Nat.le_of_ble_eq_true rfl) (Nat.le_of_ble_eq_true rfl) dX7_ofDrive_28
set_option maxHeartbeats 4000000 in
theorem ct_offsetOf (l : Launch) {G : mG} {ad : Nat → Nat} {g r : Nat → Int32} {f : Nat → UInt32} {h : tH} {b : Nat → Int32} {M0 : mM} {x z : Int32} (hd : tAd ad) : mMet l yX7_offsetOf (ws_ yX7_offsetOf cX7_offsetOf 3 (some .int)) (mRm 4 0 0) [.ref (ad 0), .int x, .int z] G (pPre (tM G ad g r f h b M0)) (qPost (kHead x z) (.int (nI 0)) (.int (r (0 + (4 * nD x + nD z)))) (tM G ad (va_up g 10 (nI (kHead x z))) r f h b M0) (tM G ad (va_up g 10 (nI 0)) r f h b M0)) := by
  refine mMet.of (by decide +kernel) (Nat.le_of_ble_eq_true rfl) fun p e s m args below meth c A Q M hM0 F hnm hQ hM ls hl => ?_
  have hM0 : M = tM G ad g r f h b M0 := hM0
  subst hM0
  have hl : lv_has ls 3 [(0, .ref (ad 0)), (1, .int x), (2, .int z)] := hl
  refine lv_aload_n F.1.1 F.1.2.1 dX7_offsetOf_0 rfl (lv_at hl 0 rfl) ?_
  refine lv_iload_n F.1.1 F.1.2.1 dX7_offsetOf_1 rfl (lv_at hl 1 rfl) ?_
  refine lv_iload_n F.1.1 F.1.2.1 dX7_offsetOf_2 rfl (lv_at hl 2 rfl) ?_
  refine mr_iconst F 0 dX7_offsetOf_3 (by decide +kernel) ?_
  refine mc_V (As := [_, _, _]) F hM (ct_about l hd (by omega)) (cwV 3 F.1.2.2.2.2 (lw_V q1959 q1961 qs58 q88 q1962) rfl rfl rfl (by decide +kernel) (mRm_ok (by decide) (by decide))) rfl (tM_0 hd) rfl rfl rfl hl.1 rfl (Nat.le_of_ble_eq_true rfl) dX7_offsetOf_4 ⟨Nat.le_of_ble_eq_true rfl, Nat.le_of_ble_eq_true rfl⟩ (fun ρ4 M1 H locs hP hM _ => ?_)
  rcases hP with ⟨k4, rfl, rfl⟩ | ⟨k4, rfl, rfl⟩
  · exact mr_iret F hQ hM (by first | exact Or.inl ⟨k4, rfl, rfl⟩ | exact Or.inr ⟨k4, rfl, rfl⟩) (Nat.le_of_ble_eq_true rfl) (Nat.le_of_ble_eq_true rfl) dX7_offsetOf_7
  · exact mr_iret F hQ hM (by first | exact Or.inl ⟨k4, rfl, rfl⟩ | exact Or.inr ⟨k4, rfl, rfl⟩) (Nat.le_of_ble_eq_true rfl) (Nat.le_of_ble_eq_true rfl) dX7_offsetOf_7
set_option maxHeartbeats 4000000 in
theorem ct_badPassesOf (l : Launch) {G : mG} {ad : Nat → Nat} {g r : Nat → Int32} {f : Nat → UInt32} {h : tH} {b : Nat → Int32} {M0 : mM} {x z : Int32} (hd : tAd ad) : mMet l yX7_badPassesOf (ws_ yX7_badPassesOf cX7_badPassesOf 3 (some .int)) (mRm 4 0 0) [.ref (ad 0), .int x, .int z] G (pPre (tM G ad g r f h b M0)) (qPost (kHead x z) (.int (nI 0)) (.int (r (32 + (4 * nD x + nD z)))) (tM G ad (va_up g 10 (nI (kHead x z))) r f h b M0) (tM G ad (va_up g 10 (nI 0)) r f h b M0)) := by
  refine mMet.of (by decide +kernel) (Nat.le_of_ble_eq_true rfl) fun p e s m args below meth c A Q M hM0 F hnm hQ hM ls hl => ?_
  have hM0 : M = tM G ad g r f h b M0 := hM0
  subst hM0
  have hl : lv_has ls 3 [(0, .ref (ad 0)), (1, .int x), (2, .int z)] := hl
  refine lv_aload_n F.1.1 F.1.2.1 dX7_badPassesOf_0 rfl (lv_at hl 0 rfl) ?_
  refine lv_iload_n F.1.1 F.1.2.1 dX7_badPassesOf_1 rfl (lv_at hl 1 rfl) ?_
  refine lv_iload_n F.1.1 F.1.2.1 dX7_badPassesOf_2 rfl (lv_at hl 2 rfl) ?_
  refine mr_bipush F 32 dX7_badPassesOf_3 (by decide +kernel) ?_
  refine mc_V (As := [_, _, _]) F hM (ct_about l hd (by omega)) (cwV 3 F.1.2.2.2.2 (lw_V q1959 q1961 qs58 q88 q1962) rfl rfl rfl (by decide +kernel) (mRm_ok (by decide) (by decide))) rfl (tM_0 hd) rfl rfl rfl hl.1 rfl (Nat.le_of_ble_eq_true rfl) dX7_badPassesOf_5 ⟨Nat.le_of_ble_eq_true rfl, Nat.le_of_ble_eq_true rfl⟩ (fun ρ5 M1 H locs hP hM _ => ?_)
  rcases hP with ⟨k5, rfl, rfl⟩ | ⟨k5, rfl, rfl⟩
  · exact mr_iret F hQ hM (by first | exact Or.inl ⟨k5, rfl, rfl⟩ | exact Or.inr ⟨k5, rfl, rfl⟩) (Nat.le_of_ble_eq_true rfl) (Nat.le_of_ble_eq_true rfl) dX7_badPassesOf_8
  · exact mr_iret F hQ hM (by first | exact Or.inl ⟨k5, rfl, rfl⟩ | exact Or.inr ⟨k5, rfl, rfl⟩) (Nat.le_of_ble_eq_true rfl) (Nat.le_of_ble_eq_true rfl) dX7_badPassesOf_8
set_option maxHeartbeats 4000000 in
theorem ct_warmthOf (l : Launch) {G : mG} {ad : Nat → Nat} {g r : Nat → Int32} {f : Nat → UInt32} {h : tH} {b : Nat → Int32} {M0 : mM} {x : Int32} (hd : tAd ad) : mMet l yX7_warmthOf (ws_ yX7_warmthOf cX7_warmthOf 2 (some .int)) (mRm 4 0 0) [.ref (ad 0), .int x] G (pPre (tM G ad g r f h b M0)) (qPost (kDrive x) (.int (nI 0)) (.int (r (48 + nD x))) (tM G ad (va_up g 10 (nI (kDrive x))) r f h b M0) (tM G ad (va_up g 10 (nI 0)) r f h b M0)) := by
  refine mMet.of (by decide +kernel) (Nat.le_of_ble_eq_true rfl) fun p e s m args below meth c A Q M hM0 F hnm hQ hM ls hl => ?_
  have hM0 : M = tM G ad g r f h b M0 := hM0
  subst hM0
  have hl : lv_has ls 2 [(0, .ref (ad 0)), (1, .int x)] := hl
  refine lv_aload_n F.1.1 F.1.2.1 dX7_warmthOf_0 rfl (lv_at hl 0 rfl) ?_
  refine lv_iload_n F.1.1 F.1.2.1 dX7_warmthOf_1 rfl (lv_at hl 1 rfl) ?_
  refine mr_bipush F 48 dX7_warmthOf_2 (by decide +kernel) ?_
  refine mc_V (As := [_, _]) F hM (ct_ofDrive l hd (by omega)) (cwV 2 F.1.2.2.2.2 (lw_V q1975 q1977 qs59 q88 q1978) rfl rfl rfl (by decide +kernel) (mRm_ok (by decide) (by decide))) rfl (tM_0 hd) rfl rfl rfl hl.1 rfl (Nat.le_of_ble_eq_true rfl) dX7_warmthOf_4 ⟨Nat.le_of_ble_eq_true rfl, Nat.le_of_ble_eq_true rfl⟩ (fun ρ4 M1 H locs hP hM _ => ?_)
  rcases hP with ⟨k4, rfl, rfl⟩ | ⟨k4, rfl, rfl⟩
  · exact mr_iret F hQ hM (by first | exact Or.inl ⟨k4, rfl, rfl⟩ | exact Or.inr ⟨k4, rfl, rfl⟩) (Nat.le_of_ble_eq_true rfl) (Nat.le_of_ble_eq_true rfl) dX7_warmthOf_7
  · exact mr_iret F hQ hM (by first | exact Or.inl ⟨k4, rfl, rfl⟩ | exact Or.inr ⟨k4, rfl, rfl⟩) (Nat.le_of_ble_eq_true rfl) (Nat.le_of_ble_eq_true rfl) dX7_warmthOf_7
set_option maxHeartbeats 4000000 in
theorem ct_cylinderOf (l : Launch) {G : mG} {ad : Nat → Nat} {g r : Nat → Int32} {f : Nat → UInt32} {h : tH} {b : Nat → Int32} {M0 : mM} {x : Int32} (hd : tAd ad) : mMet l yX7_cylinderOf (ws_ yX7_cylinderOf cX7_cylinderOf 2 (some .int)) (mRm 4 0 0) [.ref (ad 0), .int x] G (pPre (tM G ad g r f h b M0)) (qPost (kDrive x) (.int (nI 0)) (.int (r (52 + nD x))) (tM G ad (va_up g 10 (nI (kDrive x))) r f h b M0) (tM G ad (va_up g 10 (nI 0)) r f h b M0)) := by
  refine mMet.of (by decide +kernel) (Nat.le_of_ble_eq_true rfl) fun p e s m args below meth c A Q M hM0 F hnm hQ hM ls hl => ?_
  have hM0 : M = tM G ad g r f h b M0 := hM0
  subst hM0
  have hl : lv_has ls 2 [(0, .ref (ad 0)), (1, .int x)] := hl
  refine lv_aload_n F.1.1 F.1.2.1 dX7_cylinderOf_0 rfl (lv_at hl 0 rfl) ?_
  refine lv_iload_n F.1.1 F.1.2.1 dX7_cylinderOf_1 rfl (lv_at hl 1 rfl) ?_
  refine mr_bipush F 52 dX7_cylinderOf_2 (by decide +kernel) ?_
  refine mc_V (As := [_, _]) F hM (ct_ofDrive l hd (by omega)) (cwV 2 F.1.2.2.2.2 (lw_V q1975 q1977 qs59 q88 q1978) rfl rfl rfl (by decide +kernel) (mRm_ok (by decide) (by decide))) rfl (tM_0 hd) rfl rfl rfl hl.1 rfl (Nat.le_of_ble_eq_true rfl) dX7_cylinderOf_4 ⟨Nat.le_of_ble_eq_true rfl, Nat.le_of_ble_eq_true rfl⟩ (fun ρ4 M1 H locs hP hM _ => ?_)
  rcases hP with ⟨k4, rfl, rfl⟩ | ⟨k4, rfl, rfl⟩
  · exact mr_iret F hQ hM (by first | exact Or.inl ⟨k4, rfl, rfl⟩ | exact Or.inr ⟨k4, rfl, rfl⟩) (Nat.le_of_ble_eq_true rfl) (Nat.le_of_ble_eq_true rfl) dX7_cylinderOf_7
  · exact mr_iret F hQ hM (by first | exact Or.inl ⟨k4, rfl, rfl⟩ | exact Or.inr ⟨k4, rfl, rfl⟩) (Nat.le_of_ble_eq_true rfl) (Nat.le_of_ble_eq_true rfl) dX7_cylinderOf_7
set_option maxHeartbeats 4000000 in
theorem ct_packIn (l : Launch) {G : mG} {ad : Nat → Nat} {g r : Nat → Int32} {f : Nat → UInt32} {h : tH} {b : Nat → Int32} {M0 : mM} {x : Int32} (hd : tAd ad) : mMet l yX7_packIn (ws_ yX7_packIn cX7_packIn 2 (some .int)) (mRm 4 0 0) [.ref (ad 0), .int x] G (pPre (tM G ad g r f h b M0)) (qPost (kDrive x) (.int (nI 0)) (.int (r (60 + nD x))) (tM G ad (va_up g 10 (nI (kDrive x))) r f h b M0) (tM G ad (va_up g 10 (nI 0)) r f h b M0)) := by
  refine mMet.of (by decide +kernel) (Nat.le_of_ble_eq_true rfl) fun p e s m args below meth c A Q M hM0 F hnm hQ hM ls hl => ?_
  have hM0 : M = tM G ad g r f h b M0 := hM0
  subst hM0
  have hl : lv_has ls 2 [(0, .ref (ad 0)), (1, .int x)] := hl
  refine lv_aload_n F.1.1 F.1.2.1 dX7_packIn_0 rfl (lv_at hl 0 rfl) ?_
  refine lv_iload_n F.1.1 F.1.2.1 dX7_packIn_1 rfl (lv_at hl 1 rfl) ?_
  refine mr_bipush F 60 dX7_packIn_2 (by decide +kernel) ?_
  refine mc_V (As := [_, _]) F hM (ct_ofDrive l hd (by omega)) (cwV 2 F.1.2.2.2.2 (lw_V q1975 q1977 qs59 q88 q1978) rfl rfl rfl (by decide +kernel) (mRm_ok (by decide) (by decide))) rfl (tM_0 hd) rfl rfl rfl hl.1 rfl (Nat.le_of_ble_eq_true rfl) dX7_packIn_4 ⟨Nat.le_of_ble_eq_true rfl, Nat.le_of_ble_eq_true rfl⟩ (fun ρ4 M1 H locs hP hM _ => ?_)
  rcases hP with ⟨k4, rfl, rfl⟩ | ⟨k4, rfl, rfl⟩
  · exact mr_iret F hQ hM (by first | exact Or.inl ⟨k4, rfl, rfl⟩ | exact Or.inr ⟨k4, rfl, rfl⟩) (Nat.le_of_ble_eq_true rfl) (Nat.le_of_ble_eq_true rfl) dX7_packIn_7
  · exact mr_iret F hQ hM (by first | exact Or.inl ⟨k4, rfl, rfl⟩ | exact Or.inr ⟨k4, rfl, rfl⟩) (Nat.le_of_ble_eq_true rfl) (Nat.le_of_ble_eq_true rfl) dX7_packIn_7
set_option maxHeartbeats 4000000 in
theorem ct_isStruck (l : Launch) {G : mG} {ad : Nat → Nat} {g r : Nat → Int32} {f : Nat → UInt32} {h : tH} {b : Nat → Int32} {M0 : mM} {x z : Int32} (hd : tAd ad) : mMet l yX7_isStruck (ws_ yX7_isStruck cX7_isStruck 3 (some .boolean)) (mRm 4 0 0) [.ref (ad 0), .int x, .int z] G (pPre (tM G ad g r f h b M0)) (qPost (kHead x z) (.int (nI 0)) (.int (bI (r (16 + (4 * nD x + nD z)) = nI 1))) (tM G ad (va_up g 10 (nI (kHead x z))) r f h b M0) (tM G ad (va_up g 10 (nI 0)) r f h b M0)) := by
  refine mMet.of (by decide +kernel) (Nat.le_of_ble_eq_true rfl) fun p e s m args below meth c A Q M hM0 F hnm hQ hM ls hl => ?_
  have hM0 : M = tM G ad g r f h b M0 := hM0
  subst hM0
  have hl : lv_has ls 3 [(0, .ref (ad 0)), (1, .int x), (2, .int z)] := hl
  refine lv_aload_n F.1.1 F.1.2.1 dX7_isStruck_0 rfl (lv_at hl 0 rfl) ?_
  refine lv_iload_n F.1.1 F.1.2.1 dX7_isStruck_1 rfl (lv_at hl 1 rfl) ?_
  refine lv_iload_n F.1.1 F.1.2.1 dX7_isStruck_2 rfl (lv_at hl 2 rfl) ?_
  refine mr_bipush F 16 dX7_isStruck_3 (by decide +kernel) ?_
  refine mc_V (As := [_, _, _]) F hM (ct_about l hd (by omega)) (cwV 3 F.1.2.2.2.2 (lw_V q1959 q1961 qs58 q88 q1962) rfl rfl rfl (by decide +kernel) (mRm_ok (by decide) (by decide))) rfl (tM_0 hd) rfl rfl rfl hl.1 rfl (Nat.le_of_ble_eq_true rfl) dX7_isStruck_5 ⟨Nat.le_of_ble_eq_true rfl, Nat.le_of_ble_eq_true rfl⟩ (fun ρ5 M1 H locs hP hM _ => ?_)
  rcases hP with ⟨k5, rfl, rfl⟩ | ⟨k5, rfl, rfl⟩
  · refine mr_iconst F 1 dX7_isStruck_8 (by decide +kernel) ?_
    refine lv_icmp_ne (tgt := 16) F.1.1 F.1.2.1 dX7_isStruck_9 (by decide) (fun c9 => ?_) (fun c9 => ?_)
    · refine mr_iconst F 0 dX7_isStruck_16 (by decide +kernel) ?_
      exact mr_zret F hQ (by first | rfl | exact nZ_bI _) hM (by first | exact Or.inl ⟨k5, rfl, rfl⟩ | exact Or.inr ⟨k5, by rw [bI_t c9] <;> rfl, rfl⟩ | exact Or.inr ⟨k5, by rw [bI_f c9] <;> rfl, rfl⟩ | exact absurd c9 (by decide)) (Nat.le_of_ble_eq_true rfl) (Nat.le_of_ble_eq_true rfl) dX7_isStruck_17
    · refine mr_iconst F 1 dX7_isStruck_12 (by decide +kernel) ?_
      refine lv_goto (tgt := 17) F.1.1 F.1.2.1 dX7_isStruck_13 (by decide) ?_
      exact mr_zret F hQ (by first | rfl | exact nZ_bI _) hM (by first | exact Or.inl ⟨k5, rfl, rfl⟩ | exact Or.inr ⟨k5, by rw [bI_t c9] <;> rfl, rfl⟩ | exact Or.inr ⟨k5, by rw [bI_f c9] <;> rfl, rfl⟩ | exact absurd c9 (by decide)) (Nat.le_of_ble_eq_true rfl) (Nat.le_of_ble_eq_true rfl) dX7_isStruck_17
  · refine mr_iconst F 1 dX7_isStruck_8 (by decide +kernel) ?_
    refine lv_icmp_ne (tgt := 16) F.1.1 F.1.2.1 dX7_isStruck_9 (by decide) (fun c9 => ?_) (fun c9 => ?_)
    · refine mr_iconst F 0 dX7_isStruck_16 (by decide +kernel) ?_
      exact mr_zret F hQ (by first | rfl | exact nZ_bI _) hM (by first | exact Or.inl ⟨k5, rfl, rfl⟩ | exact Or.inr ⟨k5, by rw [bI_t c9] <;> rfl, rfl⟩ | exact Or.inr ⟨k5, by rw [bI_f c9] <;> rfl, rfl⟩ | exact absurd c9 (by decide)) (Nat.le_of_ble_eq_true rfl) (Nat.le_of_ble_eq_true rfl) dX7_isStruck_17
    · refine mr_iconst F 1 dX7_isStruck_12 (by decide +kernel) ?_
      refine lv_goto (tgt := 17) F.1.1 F.1.2.1 dX7_isStruck_13 (by decide) ?_
      exact mr_zret F hQ (by first | rfl | exact nZ_bI _) hM (by first | exact Or.inl ⟨k5, rfl, rfl⟩ | exact Or.inr ⟨k5, by rw [bI_t c9] <;> rfl, rfl⟩ | exact Or.inr ⟨k5, by rw [bI_f c9] <;> rfl, rfl⟩ | exact absurd c9 (by decide)) (Nat.le_of_ble_eq_true rfl) (Nat.le_of_ble_eq_true rfl) dX7_isStruck_17
set_option maxHeartbeats 4000000 in
theorem ct_learned (l : Launch) {G : mG} {ad : Nat → Nat} {g r : Nat → Int32} {f : Nat → UInt32} {h : tH} {b : Nat → Int32} {M0 : mM} {x z : Int32} (hd : tAd ad) (hI : mInv r f) : mMet l yX7_learned (ws_ yX7_learned cX7_learned 3 (some .int)) (mRm 3 0 0) [.ref (ad 0), .int x, .int z] G (pPre (tM G ad g r f h b M0)) (qPost (kDp r x z) (.int (nI 0)) (.int (r (64 + 6 * nD x + nD z))) (tM G ad (va_up g 10 (nI (kDp r x z))) r f h b M0) (tM G ad (va_up g 10 (nI 0)) r f h b M0)) := by
  refine mMet.of (by decide +kernel) (Nat.le_of_ble_eq_true rfl) fun p e s m args below meth c A Q M hM0 F hnm hQ hM ls hl => ?_
  have hM0 : M = tM G ad g r f h b M0 := hM0
  subst hM0
  have hl : lv_has ls 3 [(0, .ref (ad 0)), (1, .int x), (2, .int z)] := hl
  obtain ⟨np, hnp, hnp6, hpk, hun⟩ := hI.1
  have enp : nD (r 89) = np := by rw [hnp]; exact nD_nI (by omega)
  refine lv_aload_n F.1.1 F.1.2.1 dX7_learned_0 rfl (lv_at hl 0 rfl) ?_
  refine mr_iconst F 0 dX7_learned_1 (by decide +kernel) ?_
  refine tr_put F hd hM 10 (by decide) q1730 rfl rfl rfl (tw_s10 _ _ _) dX7_learned_2 (fun H locs hM => ?_)
  refine lv_iload_n F.1.1 F.1.2.1 dX7_learned_5 rfl (lv_at hl 1 rfl) ?_
  refine mc_Sa (As := [_]) F hM (ct_isDrive l ) (va_cwS 1 F.1.2.2.2.2 (lw_S q1780 q1781 q88 q1782) rfl rfl rfl (by decide +kernel) (mRm_ok (by decide) (by decide))) rfl rfl hl.1 rfl (Nat.le_of_ble_eq_true rfl) dX7_learned_6 ⟨Nat.le_of_ble_eq_true rfl, Nat.le_of_ble_eq_true rfl⟩ (fun H locs hM => ?_)
  refine mr_ifeqB F (tgt := 34) dX7_learned_9 (by decide) (fun c9 => ?_) (fun c9 => ?_)
  · have hv : kDp r x z = 1 := by unfold kDp; exact cd1_1 (fun q => c9 q.1)
    refine lv_aload_n F.1.1 F.1.2.1 dX7_learned_34 rfl (lv_at hl 0 rfl) ?_
    refine mr_iconst F 1 dX7_learned_35 (by decide +kernel) ?_
    refine mc_Va (As := [_]) F hM (ct_fails l hd ) (cwV 1 F.1.2.2.2.2 (lw_V q1789 q1791 qs34 q88 q1792) rfl rfl rfl (by decide +kernel) (mRm_ok (by decide) (by decide))) (tM_0 hd) rfl rfl rfl rfl hl.1 rfl (Nat.le_of_ble_eq_true rfl) dX7_learned_36 ⟨Nat.le_of_ble_eq_true rfl, Nat.le_of_ble_eq_true rfl⟩ (fun H locs hM => ?_)
    exact mr_iret F hQ hM (by first | exact Or.inl ⟨by rw [hv]; decide, rfl, by rw [hv, bx_uu]⟩ | exact Or.inr ⟨hv, by simp only [ed, en], rfl⟩) (Nat.le_of_ble_eq_true rfl) (Nat.le_of_ble_eq_true rfl) dX7_learned_39
  · refine lv_aload_n F.1.1 F.1.2.1 dX7_learned_12 rfl (lv_at hl 0 rfl) ?_
    refine lv_iload_n F.1.1 F.1.2.1 dX7_learned_13 rfl (lv_at hl 2 rfl) ?_
    refine mc_Va (As := [_]) F hM (ct_isPack l hd (by assumption) (by omega)) (cwV 1 F.1.2.2.2.2 (lw_V q1832 q1834 qs40 q88 q1835) rfl rfl rfl (by decide +kernel) (mRm_ok (by decide) (by decide))) (tM_0 hd) rfl rfl rfl rfl hl.1 rfl (Nat.le_of_ble_eq_true rfl) dX7_learned_14 ⟨Nat.le_of_ble_eq_true rfl, Nat.le_of_ble_eq_true rfl⟩ (fun H locs hM => ?_)
    refine mr_ifeqB F (tgt := 34) dX7_learned_17 (by decide) (fun c17 => ?_) (fun c17 => ?_)
    · have hv : kDp r x z = 1 := by unfold kDp; rw [enp]; exact cd1_1 (fun q => c17 q.2)
      refine lv_aload_n F.1.1 F.1.2.1 dX7_learned_34 rfl (lv_at hl 0 rfl) ?_
      refine mr_iconst F 1 dX7_learned_35 (by decide +kernel) ?_
      refine mc_Va (As := [_]) F hM (ct_fails l hd ) (cwV 1 F.1.2.2.2.2 (lw_V q1789 q1791 qs34 q88 q1792) rfl rfl rfl (by decide +kernel) (mRm_ok (by decide) (by decide))) (tM_0 hd) rfl rfl rfl rfl hl.1 rfl (Nat.le_of_ble_eq_true rfl) dX7_learned_36 ⟨Nat.le_of_ble_eq_true rfl, Nat.le_of_ble_eq_true rfl⟩ (fun H locs hM => ?_)
      exact mr_iret F hQ hM (by first | exact Or.inl ⟨by rw [hv]; decide, rfl, by rw [hv, bx_uu]⟩ | exact Or.inr ⟨hv, by simp only [ed, en], rfl⟩) (Nat.le_of_ble_eq_true rfl) (Nat.le_of_ble_eq_true rfl) dX7_learned_39
    · have hv : kDp r x z = 0 := by unfold kDp; rw [enp]; exact cd1_0 ⟨c9, c17⟩
      obtain ⟨d, hd4, rfl⟩ := c9
      obtain ⟨n, hn4, rfl⟩ := c17
      have ed := nD_nI (show d < 2 ^ 31 by omega)
      have en := nD_nI (show n < 2 ^ 31 by omega)
      refine lv_aload_n F.1.1 F.1.2.1 dX7_learned_20 rfl (lv_at hl 0 rfl) ?_
      refine tr_get F hd hM 0 (by decide) q1720 rfl dX7_learned_21 ?_
      refine lv_aload_n F.1.1 F.1.2.1 dX7_learned_24 rfl (lv_at hl 0 rfl) ?_
      refine lv_iload_n F.1.1 F.1.2.1 dX7_learned_25 rfl (lv_at hl 1 rfl) ?_
      refine lv_iload_n F.1.1 F.1.2.1 dX7_learned_26 rfl (lv_at hl 2 rfl) ?_
      refine mc_Va (As := [_, _]) F hM (ct_learnedAt l hd ) (cwV 2 F.1.2.2.2.2 (lw_V q1840 q1842 qs42 q88 q1843) rfl rfl rfl (by decide +kernel) (mRm_ok (by decide) (by decide))) (tM_0 hd) rfl rfl rfl rfl hl.1 rfl (Nat.le_of_ble_eq_true rfl) dX7_learned_27 ⟨Nat.le_of_ble_eq_true rfl, Nat.le_of_ble_eq_true rfl⟩ (fun H locs hM => ?_)
      refine tr_ld1 F hd hM (by omega) rfl dX7_learned_30 ?_
      refine lv_goto (tgt := 39) F.1.1 F.1.2.1 dX7_learned_31 (by decide) ?_
      exact mr_iret F hQ hM (by first | exact Or.inl ⟨by rw [hv]; decide, rfl, by rw [hv, bx_uu]⟩ | exact Or.inr ⟨hv, by simp only [ed, en], rfl⟩) (Nat.le_of_ble_eq_true rfl) (Nat.le_of_ble_eq_true rfl) dX7_learned_39
set_option maxHeartbeats 4000000 in
theorem ct_placeOf (l : Launch) {G : mG} {ad : Nat → Nat} {g r : Nat → Int32} {f : Nat → UInt32} {h : tH} {b : Nat → Int32} {M0 : mM} {x z : Int32} (hd : tAd ad) (hI : mInv r f) : mMet l yX7_placeOf (ws_ yX7_placeOf cX7_placeOf 4 (some .int)) (mRm 5 0 0) [.ref (ad 0), .int x, .int z] G (pPre (tM G ad g r f h b M0)) (qPost (kRead r x z) (.int (nI 0)) (.int (mPl r (nD x) (nD z) (nD (r (60 + nD x))) (nD (r (52 + nD x))))) (tM G ad (va_up g 10 (nI (kRead r x z))) r f h b M0) (tM G ad (va_up g 10 (nI 0)) r f h b M0)) := by
  refine mMet.of (by decide +kernel) (Nat.le_of_ble_eq_true rfl) fun p e s m args below meth c A Q M hM0 F hnm hQ hM ls hl => ?_
  have hM0 : M = tM G ad g r f h b M0 := hM0
  subst hM0
  have hl : lv_has ls 4 [(0, .ref (ad 0)), (1, .int x), (2, .int z)] := hl
  obtain ⟨np, hnp, hnp6, hpk, hun⟩ := hI.1
  have enp : nD (r 89) = np := by rw [hnp]; exact nD_nI (by omega)
  refine lv_aload_n F.1.1 F.1.2.1 dX7_placeOf_0 rfl (lv_at hl 0 rfl) ?_
  refine mr_iconst F 0 dX7_placeOf_1 (by decide +kernel) ?_
  refine tr_put F hd hM 10 (by decide) q1730 rfl rfl rfl (tw_s10 _ _ _) dX7_placeOf_2 (fun H locs hM => ?_)
  refine lv_aload_n F.1.1 F.1.2.1 dX7_placeOf_5 rfl (lv_at hl 0 rfl) ?_
  refine lv_iload_n F.1.1 F.1.2.1 dX7_placeOf_6 rfl (lv_at hl 1 rfl) ?_
  refine lv_iload_n F.1.1 F.1.2.1 dX7_placeOf_7 rfl (lv_at hl 2 rfl) ?_
  refine mc_Va (As := [_, _]) F hM (ct_readRefusal l hd ) (cwV 2 F.1.2.2.2.2 (lw_V q1911 q1913 qs51 q88 q1914) rfl rfl rfl (by decide +kernel) (mRm_ok (by decide) (by decide))) (tM_0 hd) rfl rfl rfl rfl hl.1 rfl (Nat.le_of_ble_eq_true rfl) dX7_placeOf_8 ⟨Nat.le_of_ble_eq_true rfl, Nat.le_of_ble_eq_true rfl⟩ (fun H locs hM => ?_)
  refine lv_istore_n (lv' := [(3, _), (0, _), (1, _), (2, _)]) F.1.1 F.1.2.1 dX7_placeOf_11 rfl hl (by decide) rfl (fun ls hl => ?_)
  refine lv_iload_n F.1.1 F.1.2.1 dX7_placeOf_12 rfl (lv_at hl 0 rfl) ?_
  have hkb : kRead r x z < 2 ^ 31 := Nat.lt_of_le_of_lt (cd2_le _ _) (by decide)
  refine mr_ifleN F (tgt := 24) dX7_placeOf_13 (by decide) (by omega) (fun c13 => ?_) (fun c13 => ?_)
  · obtain ⟨⟨⟨d, hd4, rfl⟩, ⟨n, hn4, rfl⟩⟩, hpn⟩ := cd2_z c13
    have ed := nD_nI (show d < 2 ^ 31 by omega)
    have en := nD_nI (show n < 2 ^ 31 by omega)
    rw [ed] at hpn
    obtain ⟨p0, hp0, hp⟩ := (hpk d hd4).resolve_left hpn
    have ep : nD (r (60 + d)) = p0 := by rw [hp]; exact nD_nI (by omega)
    obtain ⟨c0, hc4, hc⟩ := hI.2.2.2.2.2.1 d hd4
    have ec : nD (r (52 + d)) = c0 := by rw [hc]; exact nD_nI (by omega)
    refine lv_aload_n F.1.1 F.1.2.1 dX7_placeOf_24 rfl (lv_at hl 1 rfl) ?_
    refine lv_iload_n F.1.1 F.1.2.1 dX7_placeOf_25 rfl (lv_at hl 2 rfl) ?_
    refine lv_iload_n F.1.1 F.1.2.1 dX7_placeOf_26 rfl (lv_at hl 3 rfl) ?_
    refine lv_aload_n F.1.1 F.1.2.1 dX7_placeOf_27 rfl (lv_at hl 1 rfl) ?_
    refine tr_get F hd hM 0 (by decide) q1720 rfl dX7_placeOf_28 ?_
    refine mr_bipush F 60 dX7_placeOf_31 (by decide +kernel) ?_
    refine lv_iload_n F.1.1 F.1.2.1 dX7_placeOf_33 rfl (lv_at hl 2 rfl) ?_
    refine mr_iaddN F dX7_placeOf_34 ?_
    refine tr_ld1 F hd hM (by omega) hp dX7_placeOf_35 ?_
    refine lv_aload_n F.1.1 F.1.2.1 dX7_placeOf_36 rfl (lv_at hl 1 rfl) ?_
    refine tr_get F hd hM 0 (by decide) q1720 rfl dX7_placeOf_37 ?_
    refine mr_bipush F 52 dX7_placeOf_40 (by decide +kernel) ?_
    refine lv_iload_n F.1.1 F.1.2.1 dX7_placeOf_42 rfl (lv_at hl 2 rfl) ?_
    refine mr_iaddN F dX7_placeOf_43 ?_
    refine tr_ld1 F hd hM (by omega) hc dX7_placeOf_44 ?_
    refine mc_Va (As := [_, _, _, _]) F hM (ct_place l hd (by omega) (by omega) (by omega)) (cwV 4 F.1.2.2.2.2 (lw_V q1897 q1899 qs49 q88 q1900) rfl rfl rfl (by decide +kernel) (mRm_ok (by decide) (by decide))) (tM_0 hd) rfl rfl rfl rfl hl.1 rfl (Nat.le_of_ble_eq_true rfl) dX7_placeOf_45 ⟨Nat.le_of_ble_eq_true rfl, Nat.le_of_ble_eq_true rfl⟩ (fun H locs hM => ?_)
    exact mr_iret F hQ hM (by first | exact Or.inr ⟨c13, by simp only [ed, en, ep, ec], rfl⟩ | exact Or.inl ⟨c13, rfl, by rw [bx_uu]⟩) (Nat.le_of_ble_eq_true rfl) (Nat.le_of_ble_eq_true rfl) dX7_placeOf_48
  · refine lv_aload_n F.1.1 F.1.2.1 dX7_placeOf_16 rfl (lv_at hl 1 rfl) ?_
    refine lv_iload_n F.1.1 F.1.2.1 dX7_placeOf_17 rfl (lv_at hl 0 rfl) ?_
    refine mc_Va (As := [_]) F hM (ct_fails l hd ) (cwV 1 F.1.2.2.2.2 (lw_V q1789 q1791 qs34 q88 q1792) rfl rfl rfl (by decide +kernel) (mRm_ok (by decide) (by decide))) (tM_0 hd) rfl rfl rfl rfl hl.1 rfl (Nat.le_of_ble_eq_true rfl) dX7_placeOf_18 ⟨Nat.le_of_ble_eq_true rfl, Nat.le_of_ble_eq_true rfl⟩ (fun H locs hM => ?_)
    refine lv_goto (tgt := 48) F.1.1 F.1.2.1 dX7_placeOf_21 (by decide) ?_
    exact mr_iret F hQ hM (by first | exact Or.inr ⟨c13, by simp only [ed, en, ep, ec], rfl⟩ | exact Or.inl ⟨c13, rfl, by rw [bx_uu]⟩) (Nat.le_of_ble_eq_true rfl) (Nat.le_of_ble_eq_true rfl) dX7_placeOf_48
set_option maxHeartbeats 4000000 in
theorem ct_retriesByTrying (l : Launch) {G : mG} {ad : Nat → Nat} {g r : Nat → Int32} {f : Nat → UInt32} {h : tH} {b : Nat → Int32} {M0 : mM} {x z : Int32} (hd : tAd ad) (hI : mInv r f) : mMet l yX7_retriesByTrying (ws_ yX7_retriesByTrying cX7_retriesByTrying 3 (some .int)) (mRm 5 0 0) [.ref (ad 0), .int x, .int z] G (pPre (tM G ad g r f h b M0)) (qPost (kRead r x z) (.int (nI 0)) (.int (mRt r f (nD x) (nD z) (nD (r (60 + nD x))) (nD (r (52 + nD x))) (nD (r 88)))) (tM G ad (va_up g 10 (nI (kRead r x z))) r f h b M0) (tM G ad (va_up g 10 (nI 0)) r f h b M0)) := by
  refine mMet.of (by decide +kernel) (Nat.le_of_ble_eq_true rfl) fun p e s m args below meth c A Q M hM0 F hnm hQ hM ls hl => ?_
  have hM0 : M = tM G ad g r f h b M0 := hM0
  subst hM0
  have hl : lv_has ls 3 [(0, .ref (ad 0)), (1, .int x), (2, .int z)] := hl
  obtain ⟨np, hnp, hnp6, hpk, hun⟩ := hI.1
  have enp : nD (r 89) = np := by rw [hnp]; exact nD_nI (by omega)
  refine lv_aload_n F.1.1 F.1.2.1 dX7_retriesByTrying_0 rfl (lv_at hl 0 rfl) ?_
  refine lv_aload_n F.1.1 F.1.2.1 dX7_retriesByTrying_1 rfl (lv_at hl 0 rfl) ?_
  refine lv_iload_n F.1.1 F.1.2.1 dX7_retriesByTrying_2 rfl (lv_at hl 1 rfl) ?_
  refine lv_iload_n F.1.1 F.1.2.1 dX7_retriesByTrying_3 rfl (lv_at hl 2 rfl) ?_
  refine mc_Va (As := [_, _]) F hM (ct_readRefusal l hd ) (cwV 2 F.1.2.2.2.2 (lw_V q1911 q1913 qs51 q88 q1914) rfl rfl rfl (by decide +kernel) (mRm_ok (by decide) (by decide))) (tM_0 hd) rfl rfl rfl rfl hl.1 rfl (Nat.le_of_ble_eq_true rfl) dX7_retriesByTrying_4 ⟨Nat.le_of_ble_eq_true rfl, Nat.le_of_ble_eq_true rfl⟩ (fun H locs hM => ?_)
  refine tr_put F hd hM 10 (by decide) q1730 rfl rfl rfl (tw_s10 _ _ _) dX7_retriesByTrying_7 (fun H locs hM => ?_)
  refine lv_aload_n F.1.1 F.1.2.1 dX7_retriesByTrying_10 rfl (lv_at hl 0 rfl) ?_
  refine tr_get F hd hM 10 (by decide) q1730 (congrArg (fun z => some (Value.int z)) (va_up_self g 10 _)) dX7_retriesByTrying_11 ?_
  have hkb : kRead r x z < 2 ^ 31 := Nat.lt_of_le_of_lt (cd2_le _ _) (by decide)
  refine mr_ifleN F (tgt := 21) dX7_retriesByTrying_14 (by decide) (by omega) (fun c14 => ?_) (fun c14 => ?_)
  · obtain ⟨⟨⟨d, hd4, rfl⟩, ⟨n, hn4, rfl⟩⟩, hpn⟩ := cd2_z c14
    have ed := nD_nI (show d < 2 ^ 31 by omega)
    have en := nD_nI (show n < 2 ^ 31 by omega)
    rw [ed] at hpn
    obtain ⟨p0, hp0, hp⟩ := (hpk d hd4).resolve_left hpn
    have ep : nD (r (60 + d)) = p0 := by rw [hp]; exact nD_nI (by omega)
    obtain ⟨c0, hc4, hc⟩ := hI.2.2.2.2.2.1 d hd4
    have ec : nD (r (52 + d)) = c0 := by rw [hc]; exact nD_nI (by omega)
    obtain ⟨t, ht, ht8⟩ := hI.2.1
    have et : nD (r 88) = t := by rw [ht]; exact nD_nI (by omega)
    refine lv_aload_n F.1.1 F.1.2.1 dX7_retriesByTrying_21 rfl (lv_at hl 0 rfl) ?_
    refine lv_iload_n F.1.1 F.1.2.1 dX7_retriesByTrying_22 rfl (lv_at hl 1 rfl) ?_
    refine lv_iload_n F.1.1 F.1.2.1 dX7_retriesByTrying_23 rfl (lv_at hl 2 rfl) ?_
    refine lv_aload_n F.1.1 F.1.2.1 dX7_retriesByTrying_24 rfl (lv_at hl 0 rfl) ?_
    refine tr_get F hd hM 0 (by decide) q1720 rfl dX7_retriesByTrying_25 ?_
    refine mr_bipush F 60 dX7_retriesByTrying_28 (by decide +kernel) ?_
    refine lv_iload_n F.1.1 F.1.2.1 dX7_retriesByTrying_30 rfl (lv_at hl 1 rfl) ?_
    refine mr_iaddN F dX7_retriesByTrying_31 ?_
    refine tr_ld1 F hd hM (by omega) hp dX7_retriesByTrying_32 ?_
    refine lv_aload_n F.1.1 F.1.2.1 dX7_retriesByTrying_33 rfl (lv_at hl 0 rfl) ?_
    refine tr_get F hd hM 0 (by decide) q1720 rfl dX7_retriesByTrying_34 ?_
    refine mr_bipush F 52 dX7_retriesByTrying_37 (by decide +kernel) ?_
    refine lv_iload_n F.1.1 F.1.2.1 dX7_retriesByTrying_39 rfl (lv_at hl 1 rfl) ?_
    refine mr_iaddN F dX7_retriesByTrying_40 ?_
    refine tr_ld1 F hd hM (by omega) hc dX7_retriesByTrying_41 ?_
    refine mc_Va (As := [_, _, _, _]) F hM (ct_retries l hd (by assumption) (by assumption) (by omega) (by omega) (by omega) (by omega) (by omega)) (cwV 4 F.1.2.2.2.2 (lw_V q1919 q1921 qs53 q88 q1922) rfl rfl rfl (by decide +kernel) (mRm_ok (by decide) (by decide))) (tM_0 hd) rfl rfl rfl rfl hl.1 rfl (Nat.le_of_ble_eq_true rfl) dX7_retriesByTrying_42 ⟨Nat.le_of_ble_eq_true rfl, Nat.le_of_ble_eq_true rfl⟩ (fun H locs hM => ?_)
    exact mr_iret F hQ hM (by first | exact Or.inr ⟨c14, by simp only [ed, en, ep, ec, et], by rw [c14]⟩ | exact Or.inl ⟨c14, rfl, rfl⟩) (Nat.le_of_ble_eq_true rfl) (Nat.le_of_ble_eq_true rfl) dX7_retriesByTrying_45
  · refine mr_iconst F 0 dX7_retriesByTrying_17 (by decide +kernel) ?_
    refine lv_goto (tgt := 45) F.1.1 F.1.2.1 dX7_retriesByTrying_18 (by decide) ?_
    exact mr_iret F hQ hM (by first | exact Or.inr ⟨c14, by simp only [ed, en, ep, ec, et], by rw [c14]⟩ | exact Or.inl ⟨c14, rfl, rfl⟩) (Nat.le_of_ble_eq_true rfl) (Nat.le_of_ble_eq_true rfl) dX7_retriesByTrying_45
set_option maxHeartbeats 4000000 in
theorem ct_retriesByGap (l : Launch) {G : mG} {ad : Nat → Nat} {g r : Nat → Int32} {f : Nat → UInt32} {h : tH} {b : Nat → Int32} {M0 : mM} {x z : Int32} (hd : tAd ad) (hI : mInv r f) : mMet l yX7_retriesByGap (ws_ yX7_retriesByGap cX7_retriesByGap 3 (some .int)) (mRm 6 0 0) [.ref (ad 0), .int x, .int z] G (pPre (tM G ad g r f h b M0)) (qPost (kRead r x z) (.int (nI 0)) (.int (mRt r f (nD x) (nD z) (nD (r (60 + nD x))) (nD (r (52 + nD x))) (nD (r 88)))) (tM G ad (va_up g 10 (nI (kRead r x z))) r f h b M0) (tM G ad (va_up g 10 (nI 0)) r f h b M0)) := by
  refine mMet.of (by decide +kernel) (Nat.le_of_ble_eq_true rfl) fun p e s m args below meth c A Q M hM0 F hnm hQ hM ls hl => ?_
  have hM0 : M = tM G ad g r f h b M0 := hM0
  subst hM0
  have hl : lv_has ls 3 [(0, .ref (ad 0)), (1, .int x), (2, .int z)] := hl
  refine lv_aload_n F.1.1 F.1.2.1 dX7_retriesByGap_0 rfl (lv_at hl 0 rfl) ?_
  refine lv_iload_n F.1.1 F.1.2.1 dX7_retriesByGap_1 rfl (lv_at hl 1 rfl) ?_
  refine lv_iload_n F.1.1 F.1.2.1 dX7_retriesByGap_2 rfl (lv_at hl 2 rfl) ?_
  refine mc_V (As := [_, _]) F hM (ct_retriesByTrying l hd (by assumption)) (cwV 2 F.1.2.2.2.2 (lw_V q2056 q2049 q2050 q88 q2051) rfl rfl rfl (by decide +kernel) (mRm_ok (by decide) (by decide))) rfl (tM_0 hd) rfl rfl rfl hl.1 rfl (Nat.le_of_ble_eq_true rfl) dX7_retriesByGap_3 ⟨Nat.le_of_ble_eq_true rfl, Nat.le_of_ble_eq_true rfl⟩ (fun ρ3 M1 H locs hP hM _ => ?_)
  rcases hP with ⟨k3, rfl, rfl⟩ | ⟨k3, rfl, rfl⟩
  · exact mr_iret F hQ hM (by first | exact Or.inl ⟨k3, rfl, rfl⟩ | exact Or.inr ⟨k3, rfl, rfl⟩) (Nat.le_of_ble_eq_true rfl) (Nat.le_of_ble_eq_true rfl) dX7_retriesByGap_6
  · exact mr_iret F hQ hM (by first | exact Or.inl ⟨k3, rfl, rfl⟩ | exact Or.inr ⟨k3, rfl, rfl⟩) (Nat.le_of_ble_eq_true rfl) (Nat.le_of_ble_eq_true rfl) dX7_retriesByGap_6
set_option maxHeartbeats 4000000 in
theorem ct_signalRefusal (l : Launch) {G : mG} {ad : Nat → Nat} {g r : Nat → Int32} {f : Nat → UInt32} {h : tH} {b : Nat → Int32} {M0 : mM} {x z u : Int32} (hd : tAd ad) : mMet l yX7_signalRefusal (ws_ yX7_signalRefusal cX7_signalRefusal 4 (some .int)) (mRm 3 0 0) [.ref (ad 0), .int x, .int z, .int u] G (pPre (tM G ad g r f h b M0)) (pPost (tM G ad g r f h b M0) (some (.int (nI (kSig r x z u))))) := by
  refine mMet.of (by decide +kernel) (Nat.le_of_ble_eq_true rfl) fun p e s m args below meth c A Q M hM0 F hnm hQ hM ls hl => ?_
  have hM0 : M = tM G ad g r f h b M0 := hM0
  subst hM0
  have hl : lv_has ls 4 [(0, .ref (ad 0)), (1, .int x), (2, .int z), (3, .int u)] := hl
  refine lv_iload_n F.1.1 F.1.2.1 dX7_signalRefusal_0 rfl (lv_at hl 1 rfl) ?_
  refine mc_Sa (As := [_]) F hM (ct_isDrive l ) (va_cwS 1 F.1.2.2.2.2 (lw_S q1780 q1781 q88 q1782) rfl rfl rfl (by decide +kernel) (mRm_ok (by decide) (by decide))) rfl rfl hl.1 rfl (Nat.le_of_ble_eq_true rfl) dX7_signalRefusal_1 ⟨Nat.le_of_ble_eq_true rfl, Nat.le_of_ble_eq_true rfl⟩ (fun H locs hM => ?_)
  refine mr_ifeqB F (tgt := 14) dX7_signalRefusal_4 (by decide) (fun c4 => ?_) (fun c4 => ?_)
  · have hv : kSig r x z u = 1 := by unfold kSig; exact cd3_1 (fun q => c4 q.1)
    refine mr_iconst F 1 dX7_signalRefusal_14 (by decide +kernel) ?_
    exact mr_iret F hQ hM ⟨by rw [hv], rfl⟩ (Nat.le_of_ble_eq_true rfl) (Nat.le_of_ble_eq_true rfl) dX7_signalRefusal_15
  · refine lv_iload_n F.1.1 F.1.2.1 dX7_signalRefusal_7 rfl (lv_at hl 2 rfl) ?_
    refine mc_Sa (As := [_]) F hM (ct_isDataHead l ) (va_cwS 1 F.1.2.2.2.2 (lw_S q1887 q1888 q88 q1889) rfl rfl rfl (by decide +kernel) (mRm_ok (by decide) (by decide))) rfl rfl hl.1 rfl (Nat.le_of_ble_eq_true rfl) dX7_signalRefusal_8 ⟨Nat.le_of_ble_eq_true rfl, Nat.le_of_ble_eq_true rfl⟩ (fun H locs hM => ?_)
    refine mr_ifneB F (tgt := 16) dX7_signalRefusal_11 (by decide) (fun c11 => ?_) (fun c11 => ?_)
    · refine lv_iload_n F.1.1 F.1.2.1 dX7_signalRefusal_16 rfl (lv_at hl 3 rfl) ?_
      refine lv_bipush (v := -40) F.1.1 F.1.2.1 dX7_signalRefusal_17 (by decide +kernel) ?_
      refine mr_bipush F 40 dX7_signalRefusal_19 (by decide +kernel) ?_
      refine mc_Sa (As := [_, _, _]) F hM (ct_in l ) (va_cwS 3 F.1.2.2.2.2 (lw_S q1783 q1784 q88 q1785) rfl rfl rfl (by decide +kernel) (mRm_ok (by decide) (by decide))) rfl rfl hl.1 rfl (Nat.le_of_ble_eq_true rfl) dX7_signalRefusal_21 ⟨Nat.le_of_ble_eq_true rfl, Nat.le_of_ble_eq_true rfl⟩ (fun H locs hM => ?_)
      refine mr_ifneB F (tgt := 31) dX7_signalRefusal_24 (by decide) (fun c24 => ?_) (fun c24 => ?_)
      · obtain ⟨d, hd4, rfl⟩ := c4
        refine lv_aload_n F.1.1 F.1.2.1 dX7_signalRefusal_31 rfl (lv_at hl 0 rfl) ?_
        refine tr_get F hd hM 0 (by decide) q1720 rfl dX7_signalRefusal_32 ?_
        refine mr_bipush F 60 dX7_signalRefusal_35 (by decide +kernel) ?_
        refine lv_iload_n F.1.1 F.1.2.1 dX7_signalRefusal_37 rfl (lv_at hl 1 rfl) ?_
        refine mr_iaddN F dX7_signalRefusal_38 ?_
        refine tr_ld1 F hd hM (by omega) rfl dX7_signalRefusal_39 ?_
        refine lv_iconst (v := -1) F.1.1 F.1.2.1 dX7_signalRefusal_40 (by decide +kernel) ?_
        refine lv_icmp_ne (tgt := 48) F.1.1 F.1.2.1 dX7_signalRefusal_41 (by decide) (fun c41 => ?_) (fun c41 => ?_)
        · have hv : kSig r (nI d) z u = 0 := by unfold kSig; rw [nD_nI (show d < 2 ^ 31 by omega)]; exact cd3_0 ⟨⟨d, hd4, rfl⟩, c11⟩ ((bnd_iff (B := 40) (show 40 < 2 ^ 31 by decide) (by decide)).mp c24) c41
          refine mr_iconst F 0 dX7_signalRefusal_48 (by decide +kernel) ?_
          exact mr_iret F hQ hM ⟨by rw [hv], rfl⟩ (Nat.le_of_ble_eq_true rfl) (Nat.le_of_ble_eq_true rfl) dX7_signalRefusal_49
        · have hv : kSig r (nI d) z u = 3 := by unfold kSig; rw [nD_nI (show d < 2 ^ 31 by omega)]; exact cd3_3 ⟨⟨d, hd4, rfl⟩, c11⟩ ((bnd_iff (B := 40) (show 40 < 2 ^ 31 by decide) (by decide)).mp c24) (fun q => q c41)
          refine mr_iconst F 3 dX7_signalRefusal_44 (by decide +kernel) ?_
          refine lv_goto (tgt := 49) F.1.1 F.1.2.1 dX7_signalRefusal_45 (by decide) ?_
          exact mr_iret F hQ hM ⟨by rw [hv], rfl⟩ (Nat.le_of_ble_eq_true rfl) (Nat.le_of_ble_eq_true rfl) dX7_signalRefusal_49
      · have hv : kSig r x z u = 2 := by unfold kSig; exact cd3_2 ⟨c4, c11⟩ (fun q => c24 ((bnd_iff (B := 40) (show 40 < 2 ^ 31 by decide) (by decide)).mpr q))
        refine mr_iconst F 2 dX7_signalRefusal_27 (by decide +kernel) ?_
        refine lv_goto (tgt := 49) F.1.1 F.1.2.1 dX7_signalRefusal_28 (by decide) ?_
        exact mr_iret F hQ hM ⟨by rw [hv], rfl⟩ (Nat.le_of_ble_eq_true rfl) (Nat.le_of_ble_eq_true rfl) dX7_signalRefusal_49
    · have hv : kSig r x z u = 1 := by unfold kSig; exact cd3_1 (fun q => c11 q.2)
      refine mr_iconst F 1 dX7_signalRefusal_14 (by decide +kernel) ?_
      exact mr_iret F hQ hM ⟨by rw [hv], rfl⟩ (Nat.le_of_ble_eq_true rfl) (Nat.le_of_ble_eq_true rfl) dX7_signalRefusal_15
set_option maxHeartbeats 4000000 in
theorem ct_signal (l : Launch) {G : mG} {ad : Nat → Nat} {g r : Nat → Int32} {f : Nat → UInt32} {h : tH} {b : Nat → Int32} {M0 : mM} {x z u : Int32} (hd : tAd ad) (hI : mInv r f) : mMet l yX7_signal (ws_ yX7_signal cX7_signal 4 (some .float)) (mRm 4 0 0) [.ref (ad 0), .int x, .int z, .int u] G (pPre (tM G ad g r f h b M0)) (qPost (kSig r x z u) (.float FP.fconst0) (.float (mSg r f (nD x) (nD z) (nD (r (60 + nD x))) (nD (r (52 + nD x))) u)) (tM G ad (va_up g 10 (nI (kSig r x z u))) r f h b M0) (tM G ad (va_up g 10 (nI 0)) r f h b M0)) := by
  refine mMet.of (by decide +kernel) (Nat.le_of_ble_eq_true rfl) fun p e s m args below meth c A Q M hM0 F hnm hQ hM ls hl => ?_
  have hM0 : M = tM G ad g r f h b M0 := hM0
  subst hM0
  have hl : lv_has ls 4 [(0, .ref (ad 0)), (1, .int x), (2, .int z), (3, .int u)] := hl
  obtain ⟨np, hnp, hnp6, hpk, hun⟩ := hI.1
  have enp : nD (r 89) = np := by rw [hnp]; exact nD_nI (by omega)
  refine lv_aload_n F.1.1 F.1.2.1 dX7_signal_0 rfl (lv_at hl 0 rfl) ?_
  refine lv_aload_n F.1.1 F.1.2.1 dX7_signal_1 rfl (lv_at hl 0 rfl) ?_
  refine lv_iload_n F.1.1 F.1.2.1 dX7_signal_2 rfl (lv_at hl 1 rfl) ?_
  refine lv_iload_n F.1.1 F.1.2.1 dX7_signal_3 rfl (lv_at hl 2 rfl) ?_
  refine lv_iload_n F.1.1 F.1.2.1 dX7_signal_4 rfl (lv_at hl 3 rfl) ?_
  refine mc_Va (As := [_, _, _]) F hM (ct_signalRefusal l hd ) (cwV 3 F.1.2.2.2.2 (lw_V q2035 q2037 qs61 q88 q2038) rfl rfl rfl (by decide +kernel) (mRm_ok (by decide) (by decide))) (tM_0 hd) rfl rfl rfl rfl hl.1 rfl (Nat.le_of_ble_eq_true rfl) dX7_signal_5 ⟨Nat.le_of_ble_eq_true rfl, Nat.le_of_ble_eq_true rfl⟩ (fun H locs hM => ?_)
  refine tr_put F hd hM 10 (by decide) q1730 rfl rfl rfl (tw_s10 _ _ _) dX7_signal_8 (fun H locs hM => ?_)
  refine lv_aload_n F.1.1 F.1.2.1 dX7_signal_11 rfl (lv_at hl 0 rfl) ?_
  refine tr_get F hd hM 10 (by decide) q1730 (congrArg (fun z => some (Value.int z)) (va_up_self g 10 _)) dX7_signal_12 ?_
  have hkb : kSig r x z u < 2 ^ 31 := Nat.lt_of_le_of_lt (cd3_le _ _ _) (by decide)
  refine mr_ifleN F (tgt := 22) dX7_signal_15 (by decide) (by omega) (fun c15 => ?_) (fun c15 => ?_)
  · obtain ⟨⟨⟨d, hd4, rfl⟩, ⟨n, hn4, rfl⟩⟩, hbz, hpn⟩ := cd3_z c15
    have ed := nD_nI (show d < 2 ^ 31 by omega)
    have en := nD_nI (show n < 2 ^ 31 by omega)
    rw [ed] at hpn
    obtain ⟨p0, hp0, hp⟩ := (hpk d hd4).resolve_left hpn
    have ep : nD (r (60 + d)) = p0 := by rw [hp]; exact nD_nI (by omega)
    obtain ⟨c0, hc4, hc⟩ := hI.2.2.2.2.2.1 d hd4
    have ec : nD (r (52 + d)) = c0 := by rw [hc]; exact nD_nI (by omega)
    refine lv_aload_n F.1.1 F.1.2.1 dX7_signal_22 rfl (lv_at hl 0 rfl) ?_
    refine lv_iload_n F.1.1 F.1.2.1 dX7_signal_23 rfl (lv_at hl 1 rfl) ?_
    refine lv_iload_n F.1.1 F.1.2.1 dX7_signal_24 rfl (lv_at hl 2 rfl) ?_
    refine lv_aload_n F.1.1 F.1.2.1 dX7_signal_25 rfl (lv_at hl 0 rfl) ?_
    refine tr_get F hd hM 0 (by decide) q1720 rfl dX7_signal_26 ?_
    refine mr_bipush F 60 dX7_signal_29 (by decide +kernel) ?_
    refine lv_iload_n F.1.1 F.1.2.1 dX7_signal_31 rfl (lv_at hl 1 rfl) ?_
    refine mr_iaddN F dX7_signal_32 ?_
    refine tr_ld1 F hd hM (by omega) hp dX7_signal_33 ?_
    refine lv_aload_n F.1.1 F.1.2.1 dX7_signal_34 rfl (lv_at hl 0 rfl) ?_
    refine tr_get F hd hM 0 (by decide) q1720 rfl dX7_signal_35 ?_
    refine mr_bipush F 52 dX7_signal_38 (by decide +kernel) ?_
    refine lv_iload_n F.1.1 F.1.2.1 dX7_signal_40 rfl (lv_at hl 1 rfl) ?_
    refine mr_iaddN F dX7_signal_41 ?_
    refine tr_ld1 F hd hM (by omega) hc dX7_signal_42 ?_
    refine lv_iload_n F.1.1 F.1.2.1 dX7_signal_43 rfl (lv_at hl 3 rfl) ?_
    refine mc_Va (As := [_, _, _, _, _]) F hM (ct_signalOf l hd (by assumption) (by omega) (by omega) (by omega) (by omega) (by assumption)) (cwV 5 F.1.2.2.2.2 (lw_V q1926 q1928 qs54 q88 q1929) rfl rfl rfl (by decide +kernel) (mRm_ok (by decide) (by decide))) (tM_0 hd) rfl rfl rfl rfl hl.1 rfl (Nat.le_of_ble_eq_true rfl) dX7_signal_44 ⟨Nat.le_of_ble_eq_true rfl, Nat.le_of_ble_eq_true rfl⟩ (fun H locs hM => ?_)
    exact mr_fret F hQ hM (by first | exact Or.inr ⟨c15, by simp only [ed, en, ep, ec], by rw [c15]⟩ | exact Or.inl ⟨c15, rfl, rfl⟩) (Nat.le_of_ble_eq_true rfl) (Nat.le_of_ble_eq_true rfl) dX7_signal_47
  · refine lv_fconst0 F.1.1 F.1.2.1 dX7_signal_18 ?_
    refine lv_goto (tgt := 47) F.1.1 F.1.2.1 dX7_signal_19 (by decide) ?_
    exact mr_fret F hQ hM (by first | exact Or.inr ⟨c15, by simp only [ed, en, ep, ec], by rw [c15]⟩ | exact Or.inl ⟨c15, rfl, rfl⟩) (Nat.le_of_ble_eq_true rfl) (Nat.le_of_ble_eq_true rfl) dX7_signal_47
set_option maxHeartbeats 4000000 in
theorem ct_packs (l : Launch) {G : mG} {ad : Nat → Nat} {g r : Nat → Int32} {f : Nat → UInt32} {h : tH} {b : Nat → Int32} {M0 : mM}  (hd : tAd ad) : mMet l yX7_packs (ws_ yX7_packs cX7_packs 1 (some .int)) (mRm 1 0 0) [.ref (ad 0)] G (pPre (tM G ad g r f h b M0)) (pPost (tM G ad (va_up g 10 (nI 0)) r f h b M0) (some (.int (r 89)))) := by
  refine mMet.of (by decide +kernel) (Nat.le_of_ble_eq_true rfl) fun p e s m args below meth c A Q M hM0 F hnm hQ hM ls hl => ?_
  have hM0 : M = tM G ad g r f h b M0 := hM0
  subst hM0
  have hl : lv_has ls 1 [(0, .ref (ad 0))] := hl
  refine lv_aload_n F.1.1 F.1.2.1 dX7_packs_0 rfl (lv_at hl 0 rfl) ?_
  refine mr_iconst F 0 dX7_packs_1 (by decide +kernel) ?_
  refine tr_put F hd hM 10 (by decide) q1730 rfl rfl rfl (tw_s10 _ _ _) dX7_packs_2 (fun H locs hM => ?_)
  refine lv_aload_n F.1.1 F.1.2.1 dX7_packs_5 rfl (lv_at hl 0 rfl) ?_
  refine tr_get F hd hM 0 (by decide) q1720 rfl dX7_packs_6 ?_
  refine mr_bipush F 89 dX7_packs_9 (by decide +kernel) ?_
  refine tr_ld1 F hd hM (by omega) rfl dX7_packs_11 ?_
  exact mr_iret F hQ hM ⟨rfl, rfl⟩ (Nat.le_of_ble_eq_true rfl) (Nat.le_of_ble_eq_true rfl) dX7_packs_12
set_option maxHeartbeats 4000000 in
theorem ct_reads (l : Launch) {G : mG} {ad : Nat → Nat} {g r : Nat → Int32} {f : Nat → UInt32} {h : tH} {b : Nat → Int32} {M0 : mM}  (hd : tAd ad) : mMet l yX7_reads (ws_ yX7_reads cX7_reads 1 (some .int)) (mRm 1 0 0) [.ref (ad 0)] G (pPre (tM G ad g r f h b M0)) (pPost (tM G ad (va_up g 10 (nI 0)) r f h b M0) (some (.int (r 114)))) := by
  refine mMet.of (by decide +kernel) (Nat.le_of_ble_eq_true rfl) fun p e s m args below meth c A Q M hM0 F hnm hQ hM ls hl => ?_
  have hM0 : M = tM G ad g r f h b M0 := hM0
  subst hM0
  have hl : lv_has ls 1 [(0, .ref (ad 0))] := hl
  refine lv_aload_n F.1.1 F.1.2.1 dX7_reads_0 rfl (lv_at hl 0 rfl) ?_
  refine mr_iconst F 0 dX7_reads_1 (by decide +kernel) ?_
  refine tr_put F hd hM 10 (by decide) q1730 rfl rfl rfl (tw_s10 _ _ _) dX7_reads_2 (fun H locs hM => ?_)
  refine lv_aload_n F.1.1 F.1.2.1 dX7_reads_5 rfl (lv_at hl 0 rfl) ?_
  refine tr_get F hd hM 0 (by decide) q1720 rfl dX7_reads_6 ?_
  refine mr_bipush F 114 dX7_reads_9 (by decide +kernel) ?_
  refine tr_ld1 F hd hM (by omega) rfl dX7_reads_11 ?_
  exact mr_iret F hQ hM ⟨rfl, rfl⟩ (Nat.le_of_ble_eq_true rfl) (Nat.le_of_ble_eq_true rfl) dX7_reads_12
set_option maxHeartbeats 4000000 in
theorem ct_failures (l : Launch) {G : mG} {ad : Nat → Nat} {g r : Nat → Int32} {f : Nat → UInt32} {h : tH} {b : Nat → Int32} {M0 : mM}  (hd : tAd ad) : mMet l yX7_failures (ws_ yX7_failures cX7_failures 1 (some .int)) (mRm 1 0 0) [.ref (ad 0)] G (pPre (tM G ad g r f h b M0)) (pPost (tM G ad (va_up g 10 (nI 0)) r f h b M0) (some (.int (r 115)))) := by
  refine mMet.of (by decide +kernel) (Nat.le_of_ble_eq_true rfl) fun p e s m args below meth c A Q M hM0 F hnm hQ hM ls hl => ?_
  have hM0 : M = tM G ad g r f h b M0 := hM0
  subst hM0
  have hl : lv_has ls 1 [(0, .ref (ad 0))] := hl
  refine lv_aload_n F.1.1 F.1.2.1 dX7_failures_0 rfl (lv_at hl 0 rfl) ?_
  refine mr_iconst F 0 dX7_failures_1 (by decide +kernel) ?_
  refine tr_put F hd hM 10 (by decide) q1730 rfl rfl rfl (tw_s10 _ _ _) dX7_failures_2 (fun H locs hM => ?_)
  refine lv_aload_n F.1.1 F.1.2.1 dX7_failures_5 rfl (lv_at hl 0 rfl) ?_
  refine tr_get F hd hM 0 (by decide) q1720 rfl dX7_failures_6 ?_
  refine mr_bipush F 115 dX7_failures_9 (by decide +kernel) ?_
  refine tr_ld1 F hd hM (by omega) rfl dX7_failures_11 ?_
  exact mr_iret F hQ hM ⟨rfl, rfl⟩ (Nat.le_of_ble_eq_true rfl) (Nat.le_of_ble_eq_true rfl) dX7_failures_12
set_option maxHeartbeats 4000000 in
theorem ct_savedStates (l : Launch) {G : mG} {ad : Nat → Nat} {g r : Nat → Int32} {f : Nat → UInt32} {h : tH} {b : Nat → Int32} {M0 : mM}  (hd : tAd ad) : mMet l yX7_savedStates (ws_ yX7_savedStates cX7_savedStates 1 (some .int)) (mRm 1 0 0) [.ref (ad 0)] G (pPre (tM G ad g r f h b M0)) (pPost (tM G ad (va_up g 10 (nI 0)) r f h b M0) (some (.int (g 4)))) := by
  refine mMet.of (by decide +kernel) (Nat.le_of_ble_eq_true rfl) fun p e s m args below meth c A Q M hM0 F hnm hQ hM ls hl => ?_
  have hM0 : M = tM G ad g r f h b M0 := hM0
  subst hM0
  have hl : lv_has ls 1 [(0, .ref (ad 0))] := hl
  refine lv_aload_n F.1.1 F.1.2.1 dX7_savedStates_0 rfl (lv_at hl 0 rfl) ?_
  refine mr_iconst F 0 dX7_savedStates_1 (by decide +kernel) ?_
  refine tr_put F hd hM 10 (by decide) q1730 rfl rfl rfl (tw_s10 _ _ _) dX7_savedStates_2 (fun H locs hM => ?_)
  refine lv_aload_n F.1.1 F.1.2.1 dX7_savedStates_5 rfl (lv_at hl 0 rfl) ?_
  refine tr_get F hd hM 4 (by decide) q1724 rfl dX7_savedStates_6 ?_
  exact mr_iret F hQ hM ⟨rfl, rfl⟩ (Nat.le_of_ble_eq_true rfl) (Nat.le_of_ble_eq_true rfl) dX7_savedStates_9
set_option maxHeartbeats 4000000 in
theorem ct_retriesByDrives (l : Launch) {G : mG} {ad : Nat → Nat} {g r : Nat → Int32} {f : Nat → UInt32} {h : tH} {b : Nat → Int32} {M0 : mM}  (hd : tAd ad) : mMet l yX7_retriesByDrives (ws_ yX7_retriesByDrives cX7_retriesByDrives 1 (some .int)) (mRm 2 0 0) [.ref (ad 0)] G (pPre (tM G ad g r f h b M0)) (pPost (tM G ad (va_up g 10 (nI 0)) r f h b M0) (some (.int (mSm r 116 4)))) := by
  refine mMet.of (by decide +kernel) (Nat.le_of_ble_eq_true rfl) fun p e s m args below meth c A Q M hM0 F hnm hQ hM ls hl => ?_
  have hM0 : M = tM G ad g r f h b M0 := hM0
  subst hM0
  have hl : lv_has ls 1 [(0, .ref (ad 0))] := hl
  refine lv_aload_n F.1.1 F.1.2.1 dX7_retriesByDrives_0 rfl (lv_at hl 0 rfl) ?_
  refine mr_iconst F 0 dX7_retriesByDrives_1 (by decide +kernel) ?_
  refine tr_put F hd hM 10 (by decide) q1730 rfl rfl rfl (tw_s10 _ _ _) dX7_retriesByDrives_2 (fun H locs hM => ?_)
  refine lv_aload_n F.1.1 F.1.2.1 dX7_retriesByDrives_5 rfl (lv_at hl 0 rfl) ?_
  refine mr_bipush F 116 dX7_retriesByDrives_6 (by decide +kernel) ?_
  refine mr_bipush F 120 dX7_retriesByDrives_8 (by decide +kernel) ?_
  refine mc_Va (As := [_, _]) F hM (ct_sum l hd (a0 := 116) (n0 := 4) (by omega)) (cwV 2 F.1.2.2.2.2 (lw_V q2077 q2079 qs62 q88 q2080) rfl rfl rfl (by decide +kernel) (mRm_ok (by decide) (by decide))) (tM_0 hd) rfl rfl rfl rfl hl.1 rfl (Nat.le_of_ble_eq_true rfl) dX7_retriesByDrives_10 ⟨Nat.le_of_ble_eq_true rfl, Nat.le_of_ble_eq_true rfl⟩ (fun H locs hM => ?_)
  exact mr_iret F hQ hM ⟨rfl, rfl⟩ (Nat.le_of_ble_eq_true rfl) (Nat.le_of_ble_eq_true rfl) dX7_retriesByDrives_13
set_option maxHeartbeats 4000000 in
theorem ct_retriesByPacks (l : Launch) {G : mG} {ad : Nat → Nat} {g r : Nat → Int32} {f : Nat → UInt32} {h : tH} {b : Nat → Int32} {M0 : mM}  (hd : tAd ad) : mMet l yX7_retriesByPacks (ws_ yX7_retriesByPacks cX7_retriesByPacks 1 (some .int)) (mRm 2 0 0) [.ref (ad 0)] G (pPre (tM G ad g r f h b M0)) (pPost (tM G ad (va_up g 10 (nI 0)) r f h b M0) (some (.int (mSm r 120 6)))) := by
  refine mMet.of (by decide +kernel) (Nat.le_of_ble_eq_true rfl) fun p e s m args below meth c A Q M hM0 F hnm hQ hM ls hl => ?_
  have hM0 : M = tM G ad g r f h b M0 := hM0
  subst hM0
  have hl : lv_has ls 1 [(0, .ref (ad 0))] := hl
  refine lv_aload_n F.1.1 F.1.2.1 dX7_retriesByPacks_0 rfl (lv_at hl 0 rfl) ?_
  refine mr_iconst F 0 dX7_retriesByPacks_1 (by decide +kernel) ?_
  refine tr_put F hd hM 10 (by decide) q1730 rfl rfl rfl (tw_s10 _ _ _) dX7_retriesByPacks_2 (fun H locs hM => ?_)
  refine lv_aload_n F.1.1 F.1.2.1 dX7_retriesByPacks_5 rfl (lv_at hl 0 rfl) ?_
  refine mr_bipush F 120 dX7_retriesByPacks_6 (by decide +kernel) ?_
  refine mr_bipush F 126 dX7_retriesByPacks_8 (by decide +kernel) ?_
  refine mc_Va (As := [_, _]) F hM (ct_sum l hd (a0 := 120) (n0 := 6) (by omega)) (cwV 2 F.1.2.2.2.2 (lw_V q2077 q2079 qs62 q88 q2080) rfl rfl rfl (by decide +kernel) (mRm_ok (by decide) (by decide))) (tM_0 hd) rfl rfl rfl rfl hl.1 rfl (Nat.le_of_ble_eq_true rfl) dX7_retriesByPacks_10 ⟨Nat.le_of_ble_eq_true rfl, Nat.le_of_ble_eq_true rfl⟩ (fun H locs hM => ?_)
  exact mr_iret F hQ hM ⟨rfl, rfl⟩ (Nat.le_of_ble_eq_true rfl) (Nat.le_of_ble_eq_true rfl) dX7_retriesByPacks_13
set_option maxHeartbeats 4000000 in
theorem ct_driveOf (l : Launch) {G : mG} {ad : Nat → Nat} {g r : Nat → Int32} {f : Nat → UInt32} {h : tH} {b : Nat → Int32} {M0 : mM} {x : Int32} (hd : tAd ad) (hI : mInv r f) : mMet l yX7_driveOf (ws_ yX7_driveOf cX7_driveOf 2 (some .int)) (mRm 3 0 0) [.ref (ad 0), .int x] G (pPre (tM G ad g r f h b M0)) (qPost (kPk r x) (.int (nI 0)) (.int (mDw r x)) (tM G ad (va_up g 10 (nI (kPk r x))) r f h b M0) (tM G ad (va_up g 10 (nI 0)) r f h b M0)) := by
  refine mMet.of (by decide +kernel) (Nat.le_of_ble_eq_true rfl) fun p e s m args below meth c A Q M hM0 F hnm hQ hM ls hl => ?_
  have hM0 : M = tM G ad g r f h b M0 := hM0
  subst hM0
  have hl : lv_has ls 2 [(0, .ref (ad 0)), (1, .int x)] := hl
  obtain ⟨np, hnp, hnp6, hpk, hun⟩ := hI.1
  have enp : nD (r 89) = np := by rw [hnp]; exact nD_nI (by omega)
  refine lv_aload_n F.1.1 F.1.2.1 dX7_driveOf_0 rfl (lv_at hl 0 rfl) ?_
  refine mr_iconst F 0 dX7_driveOf_1 (by decide +kernel) ?_
  refine tr_put F hd hM 10 (by decide) q1730 rfl rfl rfl (tw_s10 _ _ _) dX7_driveOf_2 (fun H locs hM => ?_)
  refine lv_aload_n F.1.1 F.1.2.1 dX7_driveOf_5 rfl (lv_at hl 0 rfl) ?_
  refine lv_iload_n F.1.1 F.1.2.1 dX7_driveOf_6 rfl (lv_at hl 1 rfl) ?_
  refine mc_Va (As := [_]) F hM (ct_isPack l hd (by assumption) (by omega)) (cwV 1 F.1.2.2.2.2 (lw_V q1832 q1834 qs40 q88 q1835) rfl rfl rfl (by decide +kernel) (mRm_ok (by decide) (by decide))) (tM_0 hd) rfl rfl rfl rfl hl.1 rfl (Nat.le_of_ble_eq_true rfl) dX7_driveOf_7 ⟨Nat.le_of_ble_eq_true rfl, Nat.le_of_ble_eq_true rfl⟩ (fun H locs hM => ?_)
  refine mr_ifeqB F (tgt := 21) dX7_driveOf_10 (by decide) (fun c10 => ?_) (fun c10 => ?_)
  · have hv : kPk r x = 1 := by unfold kPk; rw [enp]; exact cd1_1 c10
    refine lv_aload_n F.1.1 F.1.2.1 dX7_driveOf_21 rfl (lv_at hl 0 rfl) ?_
    refine mr_iconst F 1 dX7_driveOf_22 (by decide +kernel) ?_
    refine mc_Va (As := [_]) F hM (ct_fails l hd ) (cwV 1 F.1.2.2.2.2 (lw_V q1789 q1791 qs34 q88 q1792) rfl rfl rfl (by decide +kernel) (mRm_ok (by decide) (by decide))) (tM_0 hd) rfl rfl rfl rfl hl.1 rfl (Nat.le_of_ble_eq_true rfl) dX7_driveOf_23 ⟨Nat.le_of_ble_eq_true rfl, Nat.le_of_ble_eq_true rfl⟩ (fun H locs hM => ?_)
    exact mr_iret F hQ hM (by first | exact Or.inl ⟨by rw [hv]; decide, rfl, by rw [hv, bx_uu]⟩ | exact Or.inr ⟨hv, rfl, rfl⟩) (Nat.le_of_ble_eq_true rfl) (Nat.le_of_ble_eq_true rfl) dX7_driveOf_26
  · have hv : kPk r x = 0 := by unfold kPk; rw [enp]; exact cd1_0 c10
    refine lv_aload_n F.1.1 F.1.2.1 dX7_driveOf_13 rfl (lv_at hl 0 rfl) ?_
    refine lv_iload_n F.1.1 F.1.2.1 dX7_driveOf_14 rfl (lv_at hl 1 rfl) ?_
    refine mc_Va (As := [_]) F hM (ct_driveWith l hd ) (cwV 1 F.1.2.2.2.2 (lw_V q1836 q1838 qs41 q88 q1839) rfl rfl rfl (by decide +kernel) (mRm_ok (by decide) (by decide))) (tM_0 hd) rfl rfl rfl rfl hl.1 rfl (Nat.le_of_ble_eq_true rfl) dX7_driveOf_15 ⟨Nat.le_of_ble_eq_true rfl, Nat.le_of_ble_eq_true rfl⟩ (fun H locs hM => ?_)
    refine lv_goto (tgt := 26) F.1.1 F.1.2.1 dX7_driveOf_18 (by decide) ?_
    exact mr_iret F hQ hM (by first | exact Or.inl ⟨by rw [hv]; decide, rfl, by rw [hv, bx_uu]⟩ | exact Or.inr ⟨hv, rfl, rfl⟩) (Nat.le_of_ble_eq_true rfl) (Nat.le_of_ble_eq_true rfl) dX7_driveOf_26
set_option maxHeartbeats 4000000 in
theorem ct_baseOf (l : Launch) {G : mG} {ad : Nat → Nat} {g r : Nat → Int32} {f : Nat → UInt32} {h : tH} {b : Nat → Int32} {M0 : mM} {x : Int32} (hd : tAd ad) (hI : mInv r f) : mMet l yX7_baseOf (ws_ yX7_baseOf cX7_baseOf 2 (some .int)) (mRm 3 0 0) [.ref (ad 0), .int x] G (pPre (tM G ad g r f h b M0)) (qPost (kPk r x) (.int (nI 0)) (.int (r (90 + nD x))) (tM G ad (va_up g 10 (nI (kPk r x))) r f h b M0) (tM G ad (va_up g 10 (nI 0)) r f h b M0)) := by
  refine mMet.of (by decide +kernel) (Nat.le_of_ble_eq_true rfl) fun p e s m args below meth c A Q M hM0 F hnm hQ hM ls hl => ?_
  have hM0 : M = tM G ad g r f h b M0 := hM0
  subst hM0
  have hl : lv_has ls 2 [(0, .ref (ad 0)), (1, .int x)] := hl
  obtain ⟨np, hnp, hnp6, hpk, hun⟩ := hI.1
  have enp : nD (r 89) = np := by rw [hnp]; exact nD_nI (by omega)
  refine lv_aload_n F.1.1 F.1.2.1 dX7_baseOf_0 rfl (lv_at hl 0 rfl) ?_
  refine mr_iconst F 0 dX7_baseOf_1 (by decide +kernel) ?_
  refine tr_put F hd hM 10 (by decide) q1730 rfl rfl rfl (tw_s10 _ _ _) dX7_baseOf_2 (fun H locs hM => ?_)
  refine lv_aload_n F.1.1 F.1.2.1 dX7_baseOf_5 rfl (lv_at hl 0 rfl) ?_
  refine lv_iload_n F.1.1 F.1.2.1 dX7_baseOf_6 rfl (lv_at hl 1 rfl) ?_
  refine mc_Va (As := [_]) F hM (ct_isPack l hd (by assumption) (by omega)) (cwV 1 F.1.2.2.2.2 (lw_V q1832 q1834 qs40 q88 q1835) rfl rfl rfl (by decide +kernel) (mRm_ok (by decide) (by decide))) (tM_0 hd) rfl rfl rfl rfl hl.1 rfl (Nat.le_of_ble_eq_true rfl) dX7_baseOf_7 ⟨Nat.le_of_ble_eq_true rfl, Nat.le_of_ble_eq_true rfl⟩ (fun H locs hM => ?_)
  refine mr_ifeqB F (tgt := 25) dX7_baseOf_10 (by decide) (fun c10 => ?_) (fun c10 => ?_)
  · have hv : kPk r x = 1 := by unfold kPk; rw [enp]; exact cd1_1 c10
    refine lv_aload_n F.1.1 F.1.2.1 dX7_baseOf_25 rfl (lv_at hl 0 rfl) ?_
    refine mr_iconst F 1 dX7_baseOf_26 (by decide +kernel) ?_
    refine mc_Va (As := [_]) F hM (ct_fails l hd ) (cwV 1 F.1.2.2.2.2 (lw_V q1789 q1791 qs34 q88 q1792) rfl rfl rfl (by decide +kernel) (mRm_ok (by decide) (by decide))) (tM_0 hd) rfl rfl rfl rfl hl.1 rfl (Nat.le_of_ble_eq_true rfl) dX7_baseOf_27 ⟨Nat.le_of_ble_eq_true rfl, Nat.le_of_ble_eq_true rfl⟩ (fun H locs hM => ?_)
    exact mr_iret F hQ hM (by first | exact Or.inl ⟨by rw [hv]; decide, rfl, by rw [hv, bx_uu]⟩ | exact Or.inr ⟨hv, by simp only [ed], rfl⟩) (Nat.le_of_ble_eq_true rfl) (Nat.le_of_ble_eq_true rfl) dX7_baseOf_30
  · have hv : kPk r x = 0 := by unfold kPk; rw [enp]; exact cd1_0 c10
    obtain ⟨d, hd4, rfl⟩ := c10
    have ed := nD_nI (show d < 2 ^ 31 by omega)
    refine lv_aload_n F.1.1 F.1.2.1 dX7_baseOf_13 rfl (lv_at hl 0 rfl) ?_
    refine tr_get F hd hM 0 (by decide) q1720 rfl dX7_baseOf_14 ?_
    refine mr_bipush F 90 dX7_baseOf_17 (by decide +kernel) ?_
    refine lv_iload_n F.1.1 F.1.2.1 dX7_baseOf_19 rfl (lv_at hl 1 rfl) ?_
    refine mr_iaddN F dX7_baseOf_20 ?_
    refine tr_ld1 F hd hM (by omega) rfl dX7_baseOf_21 ?_
    refine lv_goto (tgt := 30) F.1.1 F.1.2.1 dX7_baseOf_22 (by decide) ?_
    exact mr_iret F hQ hM (by first | exact Or.inl ⟨by rw [hv]; decide, rfl, by rw [hv, bx_uu]⟩ | exact Or.inr ⟨hv, by simp only [ed], rfl⟩) (Nat.le_of_ble_eq_true rfl) (Nat.le_of_ble_eq_true rfl) dX7_baseOf_30
set_option maxHeartbeats 4000000 in
theorem ct_isScratched (l : Launch) {G : mG} {ad : Nat → Nat} {g r : Nat → Int32} {f : Nat → UInt32} {h : tH} {b : Nat → Int32} {M0 : mM} {x z : Int32} (hd : tAd ad) (hI : mInv r f) : mMet l yX7_isScratched (ws_ yX7_isScratched cX7_isScratched 3 (some .boolean)) (mRm 3 0 0) [.ref (ad 0), .int x, .int z] G (pPre (tM G ad g r f h b M0)) (qPost (kSf r x z) (.int (nI 0)) (.int (bI (r (96 + 3 * nD x + nD z) = nI 1))) (tM G ad (va_up g 10 (nI (kSf r x z))) r f h b M0) (tM G ad (va_up g 10 (nI 0)) r f h b M0)) := by
  refine mMet.of (by decide +kernel) (Nat.le_of_ble_eq_true rfl) fun p e s m args below meth c A Q M hM0 F hnm hQ hM ls hl => ?_
  have hM0 : M = tM G ad g r f h b M0 := hM0
  subst hM0
  have hl : lv_has ls 3 [(0, .ref (ad 0)), (1, .int x), (2, .int z)] := hl
  obtain ⟨np, hnp, hnp6, hpk, hun⟩ := hI.1
  have enp : nD (r 89) = np := by rw [hnp]; exact nD_nI (by omega)
  refine lv_aload_n F.1.1 F.1.2.1 dX7_isScratched_0 rfl (lv_at hl 0 rfl) ?_
  refine mr_iconst F 0 dX7_isScratched_1 (by decide +kernel) ?_
  refine tr_put F hd hM 10 (by decide) q1730 rfl rfl rfl (tw_s10 _ _ _) dX7_isScratched_2 (fun H locs hM => ?_)
  refine lv_aload_n F.1.1 F.1.2.1 dX7_isScratched_5 rfl (lv_at hl 0 rfl) ?_
  refine lv_iload_n F.1.1 F.1.2.1 dX7_isScratched_6 rfl (lv_at hl 1 rfl) ?_
  refine mc_Va (As := [_]) F hM (ct_isPack l hd (by assumption) (by omega)) (cwV 1 F.1.2.2.2.2 (lw_V q1832 q1834 qs40 q88 q1835) rfl rfl rfl (by decide +kernel) (mRm_ok (by decide) (by decide))) (tM_0 hd) rfl rfl rfl rfl hl.1 rfl (Nat.le_of_ble_eq_true rfl) dX7_isScratched_7 ⟨Nat.le_of_ble_eq_true rfl, Nat.le_of_ble_eq_true rfl⟩ (fun H locs hM => ?_)
  refine mr_ifeqB F (tgt := 45) dX7_isScratched_10 (by decide) (fun c10 => ?_) (fun c10 => ?_)
  · have hv : kSf r x z = 1 := by unfold kSf; rw [enp]; exact cd1_1 (fun q => c10 q.1)
    refine lv_aload_n F.1.1 F.1.2.1 dX7_isScratched_45 rfl (lv_at hl 0 rfl) ?_
    refine mr_iconst F 1 dX7_isScratched_46 (by decide +kernel) ?_
    refine mc_Va (As := [_]) F hM (ct_failsSo l hd ) (cwV 1 F.1.2.2.2.2 (lw_V q1816 q1818 qs38 q88 q1819) rfl rfl rfl (by decide +kernel) (mRm_ok (by decide) (by decide))) (tM_0 hd) rfl rfl rfl rfl hl.1 rfl (Nat.le_of_ble_eq_true rfl) dX7_isScratched_47 ⟨Nat.le_of_ble_eq_true rfl, Nat.le_of_ble_eq_true rfl⟩ (fun H locs hM => ?_)
    exact mr_zret F hQ (by first | rfl | exact nZ_bI _) hM (by first | exact Or.inl ⟨by rw [hv]; decide, rfl, by rw [hv, bx_uu]⟩ | exact Or.inr ⟨hv, by simp only [ed, en]; rw [bI_t c34] <;> rfl, rfl⟩ | exact Or.inr ⟨hv, by simp only [ed, en]; rw [bI_f c34] <;> rfl, rfl⟩) (Nat.le_of_ble_eq_true rfl) (Nat.le_of_ble_eq_true rfl) dX7_isScratched_50
  · refine lv_iload_n F.1.1 F.1.2.1 dX7_isScratched_13 rfl (lv_at hl 2 rfl) ?_
    refine mc_Sa (As := [_]) F hM (ct_isDataHead l ) (va_cwS 1 F.1.2.2.2.2 (lw_S q1887 q1888 q88 q1889) rfl rfl rfl (by decide +kernel) (mRm_ok (by decide) (by decide))) rfl rfl hl.1 rfl (Nat.le_of_ble_eq_true rfl) dX7_isScratched_14 ⟨Nat.le_of_ble_eq_true rfl, Nat.le_of_ble_eq_true rfl⟩ (fun H locs hM => ?_)
    refine mr_ifeqB F (tgt := 45) dX7_isScratched_17 (by decide) (fun c17 => ?_) (fun c17 => ?_)
    · have hv : kSf r x z = 1 := by unfold kSf; rw [enp]; exact cd1_1 (fun q => c17 q.2)
      refine lv_aload_n F.1.1 F.1.2.1 dX7_isScratched_45 rfl (lv_at hl 0 rfl) ?_
      refine mr_iconst F 1 dX7_isScratched_46 (by decide +kernel) ?_
      refine mc_Va (As := [_]) F hM (ct_failsSo l hd ) (cwV 1 F.1.2.2.2.2 (lw_V q1816 q1818 qs38 q88 q1819) rfl rfl rfl (by decide +kernel) (mRm_ok (by decide) (by decide))) (tM_0 hd) rfl rfl rfl rfl hl.1 rfl (Nat.le_of_ble_eq_true rfl) dX7_isScratched_47 ⟨Nat.le_of_ble_eq_true rfl, Nat.le_of_ble_eq_true rfl⟩ (fun H locs hM => ?_)
      exact mr_zret F hQ (by first | rfl | exact nZ_bI _) hM (by first | exact Or.inl ⟨by rw [hv]; decide, rfl, by rw [hv, bx_uu]⟩ | exact Or.inr ⟨hv, by simp only [ed, en]; rw [bI_t c34] <;> rfl, rfl⟩ | exact Or.inr ⟨hv, by simp only [ed, en]; rw [bI_f c34] <;> rfl, rfl⟩) (Nat.le_of_ble_eq_true rfl) (Nat.le_of_ble_eq_true rfl) dX7_isScratched_50
    · have hv : kSf r x z = 0 := by unfold kSf; rw [enp]; exact cd1_0 ⟨c10, c17⟩
      obtain ⟨d, hd4, rfl⟩ := c10
      obtain ⟨n, hn4, rfl⟩ := c17
      have ed := nD_nI (show d < 2 ^ 31 by omega)
      have en := nD_nI (show n < 2 ^ 31 by omega)
      refine lv_aload_n F.1.1 F.1.2.1 dX7_isScratched_20 rfl (lv_at hl 0 rfl) ?_
      refine tr_get F hd hM 0 (by decide) q1720 rfl dX7_isScratched_21 ?_
      refine mr_bipush F 96 dX7_isScratched_24 (by decide +kernel) ?_
      refine mr_iconst F 3 dX7_isScratched_26 (by decide +kernel) ?_
      refine lv_iload_n F.1.1 F.1.2.1 dX7_isScratched_27 rfl (lv_at hl 1 rfl) ?_
      refine mr_imulN F dX7_isScratched_28 ?_
      refine mr_iaddN F dX7_isScratched_29 ?_
      refine lv_iload_n F.1.1 F.1.2.1 dX7_isScratched_30 rfl (lv_at hl 2 rfl) ?_
      refine mr_iaddN F dX7_isScratched_31 ?_
      refine tr_ld1 F hd hM (by omega) rfl dX7_isScratched_32 ?_
      refine mr_iconst F 1 dX7_isScratched_33 (by decide +kernel) ?_
      refine lv_icmp_ne (tgt := 41) F.1.1 F.1.2.1 dX7_isScratched_34 (by decide) (fun c34 => ?_) (fun c34 => ?_)
      · refine mr_iconst F 0 dX7_isScratched_41 (by decide +kernel) ?_
        refine lv_goto (tgt := 50) F.1.1 F.1.2.1 dX7_isScratched_42 (by decide) ?_
        exact mr_zret F hQ (by first | rfl | exact nZ_bI _) hM (by first | exact Or.inl ⟨by rw [hv]; decide, rfl, by rw [hv, bx_uu]⟩ | exact Or.inr ⟨hv, by simp only [ed, en]; rw [bI_t c34] <;> rfl, rfl⟩ | exact Or.inr ⟨hv, by simp only [ed, en]; rw [bI_f c34] <;> rfl, rfl⟩) (Nat.le_of_ble_eq_true rfl) (Nat.le_of_ble_eq_true rfl) dX7_isScratched_50
      · refine mr_iconst F 1 dX7_isScratched_37 (by decide +kernel) ?_
        refine lv_goto (tgt := 50) F.1.1 F.1.2.1 dX7_isScratched_38 (by decide) ?_
        exact mr_zret F hQ (by first | rfl | exact nZ_bI _) hM (by first | exact Or.inl ⟨by rw [hv]; decide, rfl, by rw [hv, bx_uu]⟩ | exact Or.inr ⟨hv, by simp only [ed, en]; rw [bI_t c34] <;> rfl, rfl⟩ | exact Or.inr ⟨hv, by simp only [ed, en]; rw [bI_f c34] <;> rfl, rfl⟩) (Nat.le_of_ble_eq_true rfl) (Nat.le_of_ble_eq_true rfl) dX7_isScratched_50
set_option maxHeartbeats 4000000 in
theorem ct_trackAt (l : Launch) {G : mG} {ad : Nat → Nat} {g r : Nat → Int32} {f : Nat → UInt32} {h : tH} {b : Nat → Int32} {M0 : mM} {x z u : Int32} (hd : tAd ad) (hI : mInv r f) : mMet l yX7_trackAt (ws_ yX7_trackAt cX7_trackAt 4 (some .int)) (mRm 3 0 0) [.ref (ad 0), .int x, .int z, .int u] G (pPre (tM G ad g r f h b M0)) (qPost (kTk r x z u) (.int (-1)) (.int (nI (40 * (3 * nD x + nD z) + nD u))) (tM G ad (va_up g 10 (nI (1))) r f h b M0) (tM G ad (va_up g 10 (nI (0))) r f h b M0)) := by
  refine mMet.of (by decide +kernel) (Nat.le_of_ble_eq_true rfl) fun p e s m args below meth c A Q M hM0 F hnm hQ hM ls hl => ?_
  have hM0 : M = tM G ad g r f h b M0 := hM0
  subst hM0
  have hl : lv_has ls 4 [(0, .ref (ad 0)), (1, .int x), (2, .int z), (3, .int u)] := hl
  obtain ⟨np, hnp, hnp6, hpk, hun⟩ := hI.1
  have enp : nD (r 89) = np := by rw [hnp]; exact nD_nI (by omega)
  refine lv_aload_n F.1.1 F.1.2.1 dX7_trackAt_0 rfl (lv_at hl 0 rfl) ?_
  refine lv_aload_n F.1.1 F.1.2.1 dX7_trackAt_1 rfl (lv_at hl 0 rfl) ?_
  refine lv_iload_n F.1.1 F.1.2.1 dX7_trackAt_2 rfl (lv_at hl 1 rfl) ?_
  refine mc_Va (As := [_]) F hM (ct_isPack l hd (by assumption) (by omega)) (cwV 1 F.1.2.2.2.2 (lw_V q1832 q1834 qs40 q88 q1835) rfl rfl rfl (by decide +kernel) (mRm_ok (by decide) (by decide))) (tM_0 hd) rfl rfl rfl rfl hl.1 rfl (Nat.le_of_ble_eq_true rfl) dX7_trackAt_3 ⟨Nat.le_of_ble_eq_true rfl, Nat.le_of_ble_eq_true rfl⟩ (fun H locs hM => ?_)
  refine mr_ifeqB F (tgt := 27) dX7_trackAt_6 (by decide) (fun c6 => ?_) (fun c6 => ?_)
  · have hv : kTk r x z u = 1 := by unfold kTk; rw [enp]; exact cd1_1 (fun q => c6 q.1)
    refine mr_iconst F 1 dX7_trackAt_27 (by decide +kernel) ?_
    refine tr_put F hd hM 10 (by decide) q1730 rfl rfl rfl (tw_s10 _ _ _) dX7_trackAt_28 (fun H locs hM => ?_)
    refine lv_aload_n F.1.1 F.1.2.1 dX7_trackAt_31 rfl (lv_at hl 0 rfl) ?_
    refine tr_get F hd hM 10 (by decide) q1730 (congrArg (fun z => some (Value.int z)) (va_up_self g 10 _)) dX7_trackAt_32 ?_
    refine mr_ifneN F (tgt := 47) dX7_trackAt_35 (by decide) (by omega) (fun c35 => ?_) (fun c35 => ?_)
    · refine lv_iconst (v := -1) F.1.1 F.1.2.1 dX7_trackAt_47 (by decide +kernel) ?_
      exact mr_iret F hQ hM (by first | exact Or.inl ⟨by rw [hv]; decide, rfl, rfl⟩ | exact Or.inr ⟨hv, by simp only [ed, en, eu], rfl⟩) (Nat.le_of_ble_eq_true rfl) (Nat.le_of_ble_eq_true rfl) dX7_trackAt_48
    · exact absurd c35 (by decide)
  · refine lv_iload_n F.1.1 F.1.2.1 dX7_trackAt_9 rfl (lv_at hl 2 rfl) ?_
    refine mc_Sa (As := [_]) F hM (ct_isDataHead l ) (va_cwS 1 F.1.2.2.2.2 (lw_S q1887 q1888 q88 q1889) rfl rfl rfl (by decide +kernel) (mRm_ok (by decide) (by decide))) rfl rfl hl.1 rfl (Nat.le_of_ble_eq_true rfl) dX7_trackAt_10 ⟨Nat.le_of_ble_eq_true rfl, Nat.le_of_ble_eq_true rfl⟩ (fun H locs hM => ?_)
    refine mr_ifeqB F (tgt := 27) dX7_trackAt_13 (by decide) (fun c13 => ?_) (fun c13 => ?_)
    · have hv : kTk r x z u = 1 := by unfold kTk; rw [enp]; exact cd1_1 (fun q => c13 q.2.1)
      refine mr_iconst F 1 dX7_trackAt_27 (by decide +kernel) ?_
      refine tr_put F hd hM 10 (by decide) q1730 rfl rfl rfl (tw_s10 _ _ _) dX7_trackAt_28 (fun H locs hM => ?_)
      refine lv_aload_n F.1.1 F.1.2.1 dX7_trackAt_31 rfl (lv_at hl 0 rfl) ?_
      refine tr_get F hd hM 10 (by decide) q1730 (congrArg (fun z => some (Value.int z)) (va_up_self g 10 _)) dX7_trackAt_32 ?_
      refine mr_ifneN F (tgt := 47) dX7_trackAt_35 (by decide) (by omega) (fun c35 => ?_) (fun c35 => ?_)
      · refine lv_iconst (v := -1) F.1.1 F.1.2.1 dX7_trackAt_47 (by decide +kernel) ?_
        exact mr_iret F hQ hM (by first | exact Or.inl ⟨by rw [hv]; decide, rfl, rfl⟩ | exact Or.inr ⟨hv, by simp only [ed, en, eu], rfl⟩) (Nat.le_of_ble_eq_true rfl) (Nat.le_of_ble_eq_true rfl) dX7_trackAt_48
      · exact absurd c35 (by decide)
    · refine lv_iload_n F.1.1 F.1.2.1 dX7_trackAt_16 rfl (lv_at hl 3 rfl) ?_
      refine mc_Sa (As := [_]) F hM (ct_isCylinder l ) (va_cwS 1 F.1.2.2.2.2 (lw_S q1864 q1865 q88 q1866) rfl rfl rfl (by decide +kernel) (mRm_ok (by decide) (by decide))) rfl rfl hl.1 rfl (Nat.le_of_ble_eq_true rfl) dX7_trackAt_17 ⟨Nat.le_of_ble_eq_true rfl, Nat.le_of_ble_eq_true rfl⟩ (fun H locs hM => ?_)
      refine mr_ifeqB F (tgt := 27) dX7_trackAt_20 (by decide) (fun c20 => ?_) (fun c20 => ?_)
      · have hv : kTk r x z u = 1 := by unfold kTk; rw [enp]; exact cd1_1 (fun q => c20 q.2.2)
        refine mr_iconst F 1 dX7_trackAt_27 (by decide +kernel) ?_
        refine tr_put F hd hM 10 (by decide) q1730 rfl rfl rfl (tw_s10 _ _ _) dX7_trackAt_28 (fun H locs hM => ?_)
        refine lv_aload_n F.1.1 F.1.2.1 dX7_trackAt_31 rfl (lv_at hl 0 rfl) ?_
        refine tr_get F hd hM 10 (by decide) q1730 (congrArg (fun z => some (Value.int z)) (va_up_self g 10 _)) dX7_trackAt_32 ?_
        refine mr_ifneN F (tgt := 47) dX7_trackAt_35 (by decide) (by omega) (fun c35 => ?_) (fun c35 => ?_)
        · refine lv_iconst (v := -1) F.1.1 F.1.2.1 dX7_trackAt_47 (by decide +kernel) ?_
          exact mr_iret F hQ hM (by first | exact Or.inl ⟨by rw [hv]; decide, rfl, rfl⟩ | exact Or.inr ⟨hv, by simp only [ed, en, eu], rfl⟩) (Nat.le_of_ble_eq_true rfl) (Nat.le_of_ble_eq_true rfl) dX7_trackAt_48
        · exact absurd c35 (by decide)
      · have hv : kTk r x z u = 0 := by unfold kTk; rw [enp]; exact cd1_0 ⟨c6, c13, c20⟩
        obtain ⟨d, hd4, rfl⟩ := c6
        obtain ⟨n, hn4, rfl⟩ := c13
        obtain ⟨q0, hq4, rfl⟩ := c20
        have ed := nD_nI (show d < 2 ^ 31 by omega)
        have en := nD_nI (show n < 2 ^ 31 by omega)
        have eu := nD_nI (show q0 < 2 ^ 31 by omega)
        refine mr_iconst F 0 dX7_trackAt_23 (by decide +kernel) ?_
        refine lv_goto (tgt := 28) F.1.1 F.1.2.1 dX7_trackAt_24 (by decide) ?_
        refine tr_put F hd hM 10 (by decide) q1730 rfl rfl rfl (tw_s10 _ _ _) dX7_trackAt_28 (fun H locs hM => ?_)
        refine lv_aload_n F.1.1 F.1.2.1 dX7_trackAt_31 rfl (lv_at hl 0 rfl) ?_
        refine tr_get F hd hM 10 (by decide) q1730 (congrArg (fun z => some (Value.int z)) (va_up_self g 10 _)) dX7_trackAt_32 ?_
        refine mr_ifneN F (tgt := 47) dX7_trackAt_35 (by decide) (by omega) (fun c35 => ?_) (fun c35 => ?_)
        · exact absurd rfl c35
        · refine lv_iload_n F.1.1 F.1.2.1 dX7_trackAt_38 rfl (lv_at hl 1 rfl) ?_
          refine lv_iload_n F.1.1 F.1.2.1 dX7_trackAt_39 rfl (lv_at hl 2 rfl) ?_
          refine lv_iload_n F.1.1 F.1.2.1 dX7_trackAt_40 rfl (lv_at hl 3 rfl) ?_
          refine mc_Sa (As := [_, _, _]) F hM (ct_track l ) (va_cwS 3 F.1.2.2.2.2 (lw_S q1894 q1895 q88 q1896) rfl rfl rfl (by decide +kernel) (mRm_ok (by decide) (by decide))) rfl rfl hl.1 rfl (Nat.le_of_ble_eq_true rfl) dX7_trackAt_41 ⟨Nat.le_of_ble_eq_true rfl, Nat.le_of_ble_eq_true rfl⟩ (fun H locs hM => ?_)
          refine lv_goto (tgt := 48) F.1.1 F.1.2.1 dX7_trackAt_44 (by decide) ?_
          exact mr_iret F hQ hM (by first | exact Or.inl ⟨by rw [hv]; decide, rfl, rfl⟩ | exact Or.inr ⟨hv, by simp only [ed, en, eu], rfl⟩) (Nat.le_of_ble_eq_true rfl) (Nat.le_of_ble_eq_true rfl) dX7_trackAt_48
