/-! THE REFERENCE: its operations -/
set_option maxHeartbeats 4000000 in
theorem ct_adjust (l : Launch) {G : mG} {ad : Nat → Nat} {g r : Nat → Int32} {f : Nat → UInt32} {h : tH} {b : Nat → Int32} {M0 : mM} {m0 : Nat} {x z u : Int32} (hd : tAd ad) (hI : mInv r f) (hg : g 4 = nI m0) (hm : m0 ≤ 5) : mMet l yX7_adjust (ws_ yX7_adjust cX7_adjust 4 (some .int)) (mRm 3 0 0) [.ref (ad 0), .int x, .int z, .int u] G (pPre (tM G ad g r f h b M0)) (qPost (kAdjust x z u) (.int (nI 0)) (.int (r (0 + (4 * nD x + nD z)))) (tM G ad (va_up g 10 (nI (kAdjust x z u))) r f h b M0) (tM G ad (va_up (va_up g 10 (nI 0)) 4 (nI (mK m0 + 1))) (va_up r (0 + (4 * nD x + nD z)) u) (f) (mRc m0 h r f) b M0)) := by
  refine mMet.of (by decide +kernel) (Nat.le_of_ble_eq_true rfl) fun p e s m args below meth c A Q M hM0 F hnm hQ hM ls hl => ?_
  have hM0 : M = tM G ad g r f h b M0 := hM0
  subst hM0
  have hl : lv_has ls 4 [(0, .ref (ad 0)), (1, .int x), (2, .int z), (3, .int u)] := hl
  obtain ⟨np, hnp, hnp6, hpk, hun⟩ := hI.1
  have enp : nD (r 89) = np := by rw [hnp]; exact nD_nI (by omega)
  refine lv_aload_n F.1.1 F.1.2.1 dX7_adjust_0 rfl (lv_at hl 0 rfl) ?_
  refine mr_iconst F 0 dX7_adjust_1 (by decide +kernel) ?_
  refine tr_put F hd hM 10 (by decide) q1730 rfl rfl rfl (tw_s10 _ _ _) dX7_adjust_2 (fun H locs hM => ?_)
  refine lv_iload_n F.1.1 F.1.2.1 dX7_adjust_5 rfl (lv_at hl 1 rfl) ?_
  refine mc_Sa (As := [_]) F hM (ct_isDrive l ) (va_cwS 1 F.1.2.2.2.2 (lw_S q1780 q1781 q88 q1782) rfl rfl rfl (by decide +kernel) (mRm_ok (by decide) (by decide))) rfl rfl hl.1 rfl (Nat.le_of_ble_eq_true rfl) dX7_adjust_6 ⟨Nat.le_of_ble_eq_true rfl, Nat.le_of_ble_eq_true rfl⟩ (fun H locs hM => ?_)
  refine mr_ifeqB F (tgt := 19) dX7_adjust_9 (by decide) (fun c9 => ?_) (fun c9 => ?_)
  · have hv : kAdjust x z u = 1 := by unfold kAdjust; exact cd2_1 (fun q => c9 q.1)
    refine lv_aload_n F.1.1 F.1.2.1 dX7_adjust_19 rfl (lv_at hl 0 rfl) ?_
    refine mr_iconst F 1 dX7_adjust_20 (by decide +kernel) ?_
    refine mc_Va (As := [_]) F hM (ct_fails l hd ) (cwV 1 F.1.2.2.2.2 (lw_V q1789 q1791 qs34 q88 q1792) rfl rfl rfl (by decide +kernel) (mRm_ok (by decide) (by decide))) (tM_0 hd) rfl rfl rfl rfl hl.1 rfl (Nat.le_of_ble_eq_true rfl) dX7_adjust_21 ⟨Nat.le_of_ble_eq_true rfl, Nat.le_of_ble_eq_true rfl⟩ (fun H locs hM => ?_)
    exact mr_iret F hQ hM (by first | exact Or.inl ⟨by rw [hv]; decide, rfl, by rw [hv, bx_uu]⟩ | exact Or.inr ⟨hv, by simp only [ed, en], by simp only [ed, en]⟩) (Nat.le_of_ble_eq_true rfl) (Nat.le_of_ble_eq_true rfl) dX7_adjust_24
  · refine lv_iload_n F.1.1 F.1.2.1 dX7_adjust_12 rfl (lv_at hl 2 rfl) ?_
    refine mc_Sa (As := [_]) F hM (ct_isHead l ) (va_cwS 1 F.1.2.2.2.2 (lw_S q1786 q1787 q88 q1788) rfl rfl rfl (by decide +kernel) (mRm_ok (by decide) (by decide))) rfl rfl hl.1 rfl (Nat.le_of_ble_eq_true rfl) dX7_adjust_13 ⟨Nat.le_of_ble_eq_true rfl, Nat.le_of_ble_eq_true rfl⟩ (fun H locs hM => ?_)
    refine mr_ifneB F (tgt := 25) dX7_adjust_16 (by decide) (fun c16 => ?_) (fun c16 => ?_)
    · refine lv_iload_n F.1.1 F.1.2.1 dX7_adjust_25 rfl (lv_at hl 3 rfl) ?_
      refine lv_bipush (v := -40) F.1.1 F.1.2.1 dX7_adjust_26 (by decide +kernel) ?_
      refine mr_bipush F 40 dX7_adjust_28 (by decide +kernel) ?_
      refine mc_Sa (As := [_, _, _]) F hM (ct_in l ) (va_cwS 3 F.1.2.2.2.2 (lw_S q1783 q1784 q88 q1785) rfl rfl rfl (by decide +kernel) (mRm_ok (by decide) (by decide))) rfl rfl hl.1 rfl (Nat.le_of_ble_eq_true rfl) dX7_adjust_30 ⟨Nat.le_of_ble_eq_true rfl, Nat.le_of_ble_eq_true rfl⟩ (fun H locs hM => ?_)
      refine mr_ifeqB F (tgt := 51) dX7_adjust_33 (by decide) (fun c33 => ?_) (fun c33 => ?_)
      · have hv : kAdjust x z u = 2 := by unfold kAdjust; exact cd2_2 ⟨c9, c16⟩ (fun q => c33 ((bnd_iff (B := 40) (show 40 < 2 ^ 31 by decide) (by decide)).mpr q))
        refine lv_aload_n F.1.1 F.1.2.1 dX7_adjust_51 rfl (lv_at hl 0 rfl) ?_
        refine mr_iconst F 2 dX7_adjust_52 (by decide +kernel) ?_
        refine mc_Va (As := [_]) F hM (ct_fails l hd ) (cwV 1 F.1.2.2.2.2 (lw_V q1789 q1791 qs34 q88 q1792) rfl rfl rfl (by decide +kernel) (mRm_ok (by decide) (by decide))) (tM_0 hd) rfl rfl rfl rfl hl.1 rfl (Nat.le_of_ble_eq_true rfl) dX7_adjust_53 ⟨Nat.le_of_ble_eq_true rfl, Nat.le_of_ble_eq_true rfl⟩ (fun H locs hM => ?_)
        exact mr_iret F hQ hM (by first | exact Or.inl ⟨by rw [hv]; decide, rfl, by rw [hv, bx_uu]⟩ | exact Or.inr ⟨hv, by simp only [ed, en], by simp only [ed, en]⟩) (Nat.le_of_ble_eq_true rfl) (Nat.le_of_ble_eq_true rfl) dX7_adjust_56
      · have hv : kAdjust x z u = 0 := by unfold kAdjust; exact cd2_0 ⟨c9, c16⟩ ((bnd_iff (B := 40) (show 40 < 2 ^ 31 by decide) (by decide)).mp c33)
        obtain ⟨d, hd4, rfl⟩ := c9
        obtain ⟨n, hn4, rfl⟩ := c16
        have ed := nD_nI (show d < 2 ^ 31 by omega)
        have en := nD_nI (show n < 2 ^ 31 by omega)
        refine lv_aload_n F.1.1 F.1.2.1 dX7_adjust_36 rfl (lv_at hl 0 rfl) ?_
        refine mr_iconst F 0 dX7_adjust_37 (by decide +kernel) ?_
        refine lv_iload_n F.1.1 F.1.2.1 dX7_adjust_38 rfl (lv_at hl 1 rfl) ?_
        refine lv_iload_n F.1.1 F.1.2.1 dX7_adjust_39 rfl (lv_at hl 2 rfl) ?_
        refine mc_Sa (As := [_, _]) F hM (ct_head l ) (va_cwS 2 F.1.2.2.2.2 (lw_S q1793 q1794 q88 q1795) rfl rfl rfl (by decide +kernel) (mRm_ok (by decide) (by decide))) rfl rfl hl.1 rfl (Nat.le_of_ble_eq_true rfl) dX7_adjust_40 ⟨Nat.le_of_ble_eq_true rfl, Nat.le_of_ble_eq_true rfl⟩ (fun H locs hM => ?_)
        refine mr_iaddN F dX7_adjust_43 ?_
        refine lv_iload_n F.1.1 F.1.2.1 dX7_adjust_44 rfl (lv_at hl 3 rfl) ?_
        refine mc_Va (As := [_, _]) F hM (ct_sets l hd (by assumption) (by omega) (by omega)) (cwV 2 F.1.2.2.2.2 (lw_V q1796 q1798 qs35 q88 q1799) rfl rfl rfl (by decide +kernel) (mRm_ok (by decide) (by decide))) (tM_0 hd) rfl rfl rfl rfl hl.1 rfl (Nat.le_of_ble_eq_true rfl) dX7_adjust_45 ⟨Nat.le_of_ble_eq_true rfl, Nat.le_of_ble_eq_true rfl⟩ (fun H locs hM => ?_)
        refine lv_goto (tgt := 56) F.1.1 F.1.2.1 dX7_adjust_48 (by decide) ?_
        exact mr_iret F hQ hM (by first | exact Or.inl ⟨by rw [hv]; decide, rfl, by rw [hv, bx_uu]⟩ | exact Or.inr ⟨hv, by simp only [ed, en], by simp only [ed, en]⟩) (Nat.le_of_ble_eq_true rfl) (Nat.le_of_ble_eq_true rfl) dX7_adjust_56
    · have hv : kAdjust x z u = 1 := by unfold kAdjust; exact cd2_1 (fun q => c16 q.2)
      refine lv_aload_n F.1.1 F.1.2.1 dX7_adjust_19 rfl (lv_at hl 0 rfl) ?_
      refine mr_iconst F 1 dX7_adjust_20 (by decide +kernel) ?_
      refine mc_Va (As := [_]) F hM (ct_fails l hd ) (cwV 1 F.1.2.2.2.2 (lw_V q1789 q1791 qs34 q88 q1792) rfl rfl rfl (by decide +kernel) (mRm_ok (by decide) (by decide))) (tM_0 hd) rfl rfl rfl rfl hl.1 rfl (Nat.le_of_ble_eq_true rfl) dX7_adjust_21 ⟨Nat.le_of_ble_eq_true rfl, Nat.le_of_ble_eq_true rfl⟩ (fun H locs hM => ?_)
      exact mr_iret F hQ hM (by first | exact Or.inl ⟨by rw [hv]; decide, rfl, by rw [hv, bx_uu]⟩ | exact Or.inr ⟨hv, by simp only [ed, en], by simp only [ed, en]⟩) (Nat.le_of_ble_eq_true rfl) (Nat.le_of_ble_eq_true rfl) dX7_adjust_24
set_option maxHeartbeats 4000000 in
theorem ct_warm (l : Launch) {G : mG} {ad : Nat → Nat} {g r : Nat → Int32} {f : Nat → UInt32} {h : tH} {b : Nat → Int32} {M0 : mM} {m0 : Nat} {x u : Int32} (hd : tAd ad) (hI : mInv r f) (hg : g 4 = nI m0) (hm : m0 ≤ 5) : mMet l yX7_warm (ws_ yX7_warm cX7_warm 3 (some .int)) (mRm 3 0 0) [.ref (ad 0), .int x, .int u] G (pPre (tM G ad g r f h b M0)) (qPost (kWarm x u) (.int (nI 0)) (.int (r (48 + nD x))) (tM G ad (va_up g 10 (nI (kWarm x u))) r f h b M0) (tM G ad (va_up (va_up g 10 (nI 0)) 4 (nI (mK m0 + 1))) (va_up r (48 + nD x) u) (f) (mRc m0 h r f) b M0)) := by
  refine mMet.of (by decide +kernel) (Nat.le_of_ble_eq_true rfl) fun p e s m args below meth c A Q M hM0 F hnm hQ hM ls hl => ?_
  have hM0 : M = tM G ad g r f h b M0 := hM0
  subst hM0
  have hl : lv_has ls 3 [(0, .ref (ad 0)), (1, .int x), (2, .int u)] := hl
  obtain ⟨np, hnp, hnp6, hpk, hun⟩ := hI.1
  have enp : nD (r 89) = np := by rw [hnp]; exact nD_nI (by omega)
  refine lv_aload_n F.1.1 F.1.2.1 dX7_warm_0 rfl (lv_at hl 0 rfl) ?_
  refine mr_iconst F 0 dX7_warm_1 (by decide +kernel) ?_
  refine tr_put F hd hM 10 (by decide) q1730 rfl rfl rfl (tw_s10 _ _ _) dX7_warm_2 (fun H locs hM => ?_)
  refine lv_iload_n F.1.1 F.1.2.1 dX7_warm_5 rfl (lv_at hl 1 rfl) ?_
  refine mc_Sa (As := [_]) F hM (ct_isDrive l ) (va_cwS 1 F.1.2.2.2.2 (lw_S q1780 q1781 q88 q1782) rfl rfl rfl (by decide +kernel) (mRm_ok (by decide) (by decide))) rfl rfl hl.1 rfl (Nat.le_of_ble_eq_true rfl) dX7_warm_6 ⟨Nat.le_of_ble_eq_true rfl, Nat.le_of_ble_eq_true rfl⟩ (fun H locs hM => ?_)
  refine mr_ifneB F (tgt := 18) dX7_warm_9 (by decide) (fun c9 => ?_) (fun c9 => ?_)
  · refine lv_iload_n F.1.1 F.1.2.1 dX7_warm_18 rfl (lv_at hl 2 rfl) ?_
    refine lv_bipush (v := -20) F.1.1 F.1.2.1 dX7_warm_19 (by decide +kernel) ?_
    refine mr_bipush F 20 dX7_warm_21 (by decide +kernel) ?_
    refine mc_Sa (As := [_, _, _]) F hM (ct_in l ) (va_cwS 3 F.1.2.2.2.2 (lw_S q1783 q1784 q88 q1785) rfl rfl rfl (by decide +kernel) (mRm_ok (by decide) (by decide))) rfl rfl hl.1 rfl (Nat.le_of_ble_eq_true rfl) dX7_warm_23 ⟨Nat.le_of_ble_eq_true rfl, Nat.le_of_ble_eq_true rfl⟩ (fun H locs hM => ?_)
    refine mr_ifeqB F (tgt := 41) dX7_warm_26 (by decide) (fun c26 => ?_) (fun c26 => ?_)
    · have hv : kWarm x u = 2 := by unfold kWarm; exact cd2_2 c9 (fun q => c26 ((bnd_iff (B := 20) (show 20 < 2 ^ 31 by decide) (by decide)).mpr q))
      refine lv_aload_n F.1.1 F.1.2.1 dX7_warm_41 rfl (lv_at hl 0 rfl) ?_
      refine mr_iconst F 2 dX7_warm_42 (by decide +kernel) ?_
      refine mc_Va (As := [_]) F hM (ct_fails l hd ) (cwV 1 F.1.2.2.2.2 (lw_V q1789 q1791 qs34 q88 q1792) rfl rfl rfl (by decide +kernel) (mRm_ok (by decide) (by decide))) (tM_0 hd) rfl rfl rfl rfl hl.1 rfl (Nat.le_of_ble_eq_true rfl) dX7_warm_43 ⟨Nat.le_of_ble_eq_true rfl, Nat.le_of_ble_eq_true rfl⟩ (fun H locs hM => ?_)
      exact mr_iret F hQ hM (by first | exact Or.inl ⟨by rw [hv]; decide, rfl, by rw [hv, bx_uu]⟩ | exact Or.inr ⟨hv, by simp only [ed], by simp only [ed]⟩) (Nat.le_of_ble_eq_true rfl) (Nat.le_of_ble_eq_true rfl) dX7_warm_46
    · have hv : kWarm x u = 0 := by unfold kWarm; exact cd2_0 c9 ((bnd_iff (B := 20) (show 20 < 2 ^ 31 by decide) (by decide)).mp c26)
      obtain ⟨d, hd4, rfl⟩ := c9
      have ed := nD_nI (show d < 2 ^ 31 by omega)
      refine lv_aload_n F.1.1 F.1.2.1 dX7_warm_29 rfl (lv_at hl 0 rfl) ?_
      refine mr_bipush F 48 dX7_warm_30 (by decide +kernel) ?_
      refine lv_iload_n F.1.1 F.1.2.1 dX7_warm_32 rfl (lv_at hl 1 rfl) ?_
      refine mr_iaddN F dX7_warm_33 ?_
      refine lv_iload_n F.1.1 F.1.2.1 dX7_warm_34 rfl (lv_at hl 2 rfl) ?_
      refine mc_Va (As := [_, _]) F hM (ct_sets l hd (by assumption) (by omega) (by omega)) (cwV 2 F.1.2.2.2.2 (lw_V q1796 q1798 qs35 q88 q1799) rfl rfl rfl (by decide +kernel) (mRm_ok (by decide) (by decide))) (tM_0 hd) rfl rfl rfl rfl hl.1 rfl (Nat.le_of_ble_eq_true rfl) dX7_warm_35 ⟨Nat.le_of_ble_eq_true rfl, Nat.le_of_ble_eq_true rfl⟩ (fun H locs hM => ?_)
      refine lv_goto (tgt := 46) F.1.1 F.1.2.1 dX7_warm_38 (by decide) ?_
      exact mr_iret F hQ hM (by first | exact Or.inl ⟨by rw [hv]; decide, rfl, by rw [hv, bx_uu]⟩ | exact Or.inr ⟨hv, by simp only [ed], by simp only [ed]⟩) (Nat.le_of_ble_eq_true rfl) (Nat.le_of_ble_eq_true rfl) dX7_warm_46
  · have hv : kWarm x u = 1 := by unfold kWarm; exact cd2_1 c9
    refine lv_aload_n F.1.1 F.1.2.1 dX7_warm_12 rfl (lv_at hl 0 rfl) ?_
    refine mr_iconst F 1 dX7_warm_13 (by decide +kernel) ?_
    refine mc_Va (As := [_]) F hM (ct_fails l hd ) (cwV 1 F.1.2.2.2.2 (lw_V q1789 q1791 qs34 q88 q1792) rfl rfl rfl (by decide +kernel) (mRm_ok (by decide) (by decide))) (tM_0 hd) rfl rfl rfl rfl hl.1 rfl (Nat.le_of_ble_eq_true rfl) dX7_warm_14 ⟨Nat.le_of_ble_eq_true rfl, Nat.le_of_ble_eq_true rfl⟩ (fun H locs hM => ?_)
    exact mr_iret F hQ hM (by first | exact Or.inl ⟨by rw [hv]; decide, rfl, by rw [hv, bx_uu]⟩ | exact Or.inr ⟨hv, by simp only [ed], by simp only [ed]⟩) (Nat.le_of_ble_eq_true rfl) (Nat.le_of_ble_eq_true rfl) dX7_warm_17
set_option maxHeartbeats 4000000 in
theorem ct_setServo (l : Launch) {G : mG} {ad : Nat → Nat} {g r : Nat → Int32} {f : Nat → UInt32} {h : tH} {b : Nat → Int32} {M0 : mM} {m0 : Nat} {x o : Int32} (hd : tAd ad) (hI : mInv r f) (hg : g 4 = nI m0) (hm : m0 ≤ 5) : mMet l yX7_setServo (ws_ yX7_setServo cX7_setServo 4 (some .boolean)) (mRm 4 0 0) [.ref (ad 0), .int x, .int o] G (pPre (tM G ad g r f h b M0)) (qPost (kServo r x o) (.int (nI 0)) (.int (bI (r (56 + nD x) = nI 1))) (tM G ad (va_up g 10 (nI (kServo r x o))) r f h b M0) (tM G ad (va_up (va_up g 10 (nI 0)) 4 (nI (mK m0 + 1))) (va_up r (56 + nD x) (bI (¬ o = 0))) (f) (mRc m0 h r f) b M0)) := by
  refine mMet.of (by decide +kernel) (Nat.le_of_ble_eq_true rfl) fun p e s m args below meth c A Q M hM0 F hnm hQ hM ls hl => ?_
  have hM0 : M = tM G ad g r f h b M0 := hM0
  subst hM0
  have hl : lv_has ls 4 [(0, .ref (ad 0)), (1, .int x), (2, .int o)] := hl
  obtain ⟨np, hnp, hnp6, hpk, hun⟩ := hI.1
  have enp : nD (r 89) = np := by rw [hnp]; exact nD_nI (by omega)
  refine lv_aload_n F.1.1 F.1.2.1 dX7_setServo_0 rfl (lv_at hl 0 rfl) ?_
  refine mr_iconst F 0 dX7_setServo_1 (by decide +kernel) ?_
  refine tr_put F hd hM 10 (by decide) q1730 rfl rfl rfl (tw_s10 _ _ _) dX7_setServo_2 (fun H locs hM => ?_)
  refine lv_aload_n F.1.1 F.1.2.1 dX7_setServo_5 rfl (lv_at hl 0 rfl) ?_
  refine lv_iload_n F.1.1 F.1.2.1 dX7_setServo_6 rfl (lv_at hl 1 rfl) ?_
  refine lv_iload_n F.1.1 F.1.2.1 dX7_setServo_7 rfl (lv_at hl 2 rfl) ?_
  refine mc_Va (As := [_, _]) F hM (ct_servoRefusal l hd ) (cwV 2 F.1.2.2.2.2 (lw_V q1812 q1814 qs37 q88 q1815) rfl rfl rfl (by decide +kernel) (mRm_ok (by decide) (by decide))) (tM_0 hd) rfl rfl rfl rfl hl.1 rfl (Nat.le_of_ble_eq_true rfl) dX7_setServo_8 ⟨Nat.le_of_ble_eq_true rfl, Nat.le_of_ble_eq_true rfl⟩ (fun H locs hM => ?_)
  refine lv_istore_n (lv' := [(3, _), (0, _), (1, _), (2, _)]) F.1.1 F.1.2.1 dX7_setServo_11 rfl hl (by decide) rfl (fun ls hl => ?_)
  refine lv_iload_n F.1.1 F.1.2.1 dX7_setServo_12 rfl (lv_at hl 0 rfl) ?_
  have hkb : kServo r x o < 2 ^ 31 := Nat.lt_of_le_of_lt (cd2_le _ _) (by decide)
  refine mr_ifleN F (tgt := 24) dX7_setServo_13 (by decide) (by omega) (fun c13 => ?_) (fun c13 => ?_)
  · obtain ⟨⟨d, hd4, rfl⟩, -⟩ := cd2_z c13
    have ed := nD_nI (show d < 2 ^ 31 by omega)
    refine lv_aload_n F.1.1 F.1.2.1 dX7_setServo_24 rfl (lv_at hl 1 rfl) ?_
    refine mr_bipush F 56 dX7_setServo_25 (by decide +kernel) ?_
    refine lv_iload_n F.1.1 F.1.2.1 dX7_setServo_27 rfl (lv_at hl 2 rfl) ?_
    refine mr_iaddN F dX7_setServo_28 ?_
    refine lv_iload_n F.1.1 F.1.2.1 dX7_setServo_29 rfl (lv_at hl 3 rfl) ?_
    refine lv_if_eq (tgt := 37) F.1.1 F.1.2.1 dX7_setServo_30 (by decide) (fun c30 => ?_) (fun c30 => ?_)
    · have ho : bI (¬ o = 0) = nI 0 := bI_f (fun q => q c30)
      refine mr_iconst F 0 dX7_setServo_37 (by decide +kernel) ?_
      refine mc_Va (As := [_, _]) F hM (ct_sets l hd (by assumption) (by omega) (by omega)) (cwV 2 F.1.2.2.2.2 (lw_V q1796 q1798 qs35 q88 q1799) rfl rfl rfl (by decide +kernel) (mRm_ok (by decide) (by decide))) (tM_0 hd) rfl rfl rfl rfl hl.1 rfl (Nat.le_of_ble_eq_true rfl) dX7_setServo_38 ⟨Nat.le_of_ble_eq_true rfl, Nat.le_of_ble_eq_true rfl⟩ (fun H locs hM => ?_)
      refine mr_iconst F 1 dX7_setServo_41 (by decide +kernel) ?_
      refine lv_icmp_ne (tgt := 49) F.1.1 F.1.2.1 dX7_setServo_42 (by decide) (fun c42 => ?_) (fun c42 => ?_)
      · have hb : bI (r (56 + d) = nI 1) = nI 0 := bI_f c42
        refine mr_iconst F 0 dX7_setServo_49 (by decide +kernel) ?_
        exact mr_zret F hQ (by first | rfl | exact nZ_bI _) hM (by first | exact Or.inl ⟨c13, rfl, by rw [bx_uu]⟩ | exact Or.inr ⟨c13, by simp only [ed, hb], by simp only [ed, ho]⟩) (Nat.le_of_ble_eq_true rfl) (Nat.le_of_ble_eq_true rfl) dX7_setServo_50
      · have hb : bI (r (56 + d) = nI 1) = nI 1 := bI_t c42
        refine mr_iconst F 1 dX7_setServo_45 (by decide +kernel) ?_
        refine lv_goto (tgt := 50) F.1.1 F.1.2.1 dX7_setServo_46 (by decide) ?_
        exact mr_zret F hQ (by first | rfl | exact nZ_bI _) hM (by first | exact Or.inl ⟨c13, rfl, by rw [bx_uu]⟩ | exact Or.inr ⟨c13, by simp only [ed, hb], by simp only [ed, ho]⟩) (Nat.le_of_ble_eq_true rfl) (Nat.le_of_ble_eq_true rfl) dX7_setServo_50
    · have ho : bI (¬ o = 0) = nI 1 := bI_t c30
      refine mr_iconst F 1 dX7_setServo_33 (by decide +kernel) ?_
      refine lv_goto (tgt := 38) F.1.1 F.1.2.1 dX7_setServo_34 (by decide) ?_
      refine mc_Va (As := [_, _]) F hM (ct_sets l hd (by assumption) (by omega) (by omega)) (cwV 2 F.1.2.2.2.2 (lw_V q1796 q1798 qs35 q88 q1799) rfl rfl rfl (by decide +kernel) (mRm_ok (by decide) (by decide))) (tM_0 hd) rfl rfl rfl rfl hl.1 rfl (Nat.le_of_ble_eq_true rfl) dX7_setServo_38 ⟨Nat.le_of_ble_eq_true rfl, Nat.le_of_ble_eq_true rfl⟩ (fun H locs hM => ?_)
      refine mr_iconst F 1 dX7_setServo_41 (by decide +kernel) ?_
      refine lv_icmp_ne (tgt := 49) F.1.1 F.1.2.1 dX7_setServo_42 (by decide) (fun c42 => ?_) (fun c42 => ?_)
      · have hb : bI (r (56 + d) = nI 1) = nI 0 := bI_f c42
        refine mr_iconst F 0 dX7_setServo_49 (by decide +kernel) ?_
        exact mr_zret F hQ (by first | rfl | exact nZ_bI _) hM (by first | exact Or.inl ⟨c13, rfl, by rw [bx_uu]⟩ | exact Or.inr ⟨c13, by simp only [ed, hb], by simp only [ed, ho]⟩) (Nat.le_of_ble_eq_true rfl) (Nat.le_of_ble_eq_true rfl) dX7_setServo_50
      · have hb : bI (r (56 + d) = nI 1) = nI 1 := bI_t c42
        refine mr_iconst F 1 dX7_setServo_45 (by decide +kernel) ?_
        refine lv_goto (tgt := 50) F.1.1 F.1.2.1 dX7_setServo_46 (by decide) ?_
        exact mr_zret F hQ (by first | rfl | exact nZ_bI _) hM (by first | exact Or.inl ⟨c13, rfl, by rw [bx_uu]⟩ | exact Or.inr ⟨c13, by simp only [ed, hb], by simp only [ed, ho]⟩) (Nat.le_of_ble_eq_true rfl) (Nat.le_of_ble_eq_true rfl) dX7_setServo_50
  · refine lv_aload_n F.1.1 F.1.2.1 dX7_setServo_16 rfl (lv_at hl 1 rfl) ?_
    refine lv_iload_n F.1.1 F.1.2.1 dX7_setServo_17 rfl (lv_at hl 0 rfl) ?_
    refine mc_Va (As := [_]) F hM (ct_failsSo l hd ) (cwV 1 F.1.2.2.2.2 (lw_V q1816 q1818 qs38 q88 q1819) rfl rfl rfl (by decide +kernel) (mRm_ok (by decide) (by decide))) (tM_0 hd) rfl rfl rfl rfl hl.1 rfl (Nat.le_of_ble_eq_true rfl) dX7_setServo_18 ⟨Nat.le_of_ble_eq_true rfl, Nat.le_of_ble_eq_true rfl⟩ (fun H locs hM => ?_)
    refine lv_goto (tgt := 50) F.1.1 F.1.2.1 dX7_setServo_21 (by decide) ?_
    exact mr_zret F hQ (by first | rfl | exact nZ_bI _) hM (by first | exact Or.inl ⟨c13, rfl, by rw [bx_uu]⟩ | exact Or.inr ⟨c13, by simp only [ed, hb], by simp only [ed, ho]⟩) (Nat.le_of_ble_eq_true rfl) (Nat.le_of_ble_eq_true rfl) dX7_setServo_50
set_option maxHeartbeats 4000000 in
theorem ct_makePack (l : Launch) {G : mG} {ad : Nat → Nat} {g r : Nat → Int32} {f : Nat → UInt32} {h : tH} {b : Nat → Int32} {M0 : mM} {m0 : Nat} {x : Int32} (hd : tAd ad) (hI : mInv r f) (hg : g 4 = nI m0) (hm : m0 ≤ 5) : mMet l yX7_makePack (ws_ yX7_makePack cX7_makePack 2 (some .int)) (mRm 3 0 0) [.ref (ad 0), .int x] G (pPre (tM G ad g r f h b M0)) (qPost (kMake r x) (.int (nI 0)) (.int (r 89)) (tM G ad (va_up g 10 (nI (kMake r x))) r f h b M0) (tM G ad (va_up (va_up g 10 (nI 0)) 4 (nI (mK m0 + 1))) (va_up (va_up r (90 + nD (r 89)) (r (0 + (4 * nD x + 3)) + r (48 + nD x))) 89 (r 89 + nI 1)) (f) (mRc m0 h r f) b M0)) := by
  refine mMet.of (by decide +kernel) (Nat.le_of_ble_eq_true rfl) fun p e s m args below meth c A Q M hM0 F hnm hQ hM ls hl => ?_
  have hM0 : M = tM G ad g r f h b M0 := hM0
  subst hM0
  have hl : lv_has ls 2 [(0, .ref (ad 0)), (1, .int x)] := hl
  obtain ⟨np, hnp, hnp6, hpk, hun⟩ := hI.1
  have enp : nD (r 89) = np := by rw [hnp]; exact nD_nI (by omega)
  refine lv_aload_n F.1.1 F.1.2.1 dX7_makePack_0 rfl (lv_at hl 0 rfl) ?_
  refine mr_iconst F 0 dX7_makePack_1 (by decide +kernel) ?_
  refine tr_put F hd hM 10 (by decide) q1730 rfl rfl rfl (tw_s10 _ _ _) dX7_makePack_2 (fun H locs hM => ?_)
  refine lv_iload_n F.1.1 F.1.2.1 dX7_makePack_5 rfl (lv_at hl 1 rfl) ?_
  refine mc_Sa (As := [_]) F hM (ct_isDrive l ) (va_cwS 1 F.1.2.2.2.2 (lw_S q1780 q1781 q88 q1782) rfl rfl rfl (by decide +kernel) (mRm_ok (by decide) (by decide))) rfl rfl hl.1 rfl (Nat.le_of_ble_eq_true rfl) dX7_makePack_6 ⟨Nat.le_of_ble_eq_true rfl, Nat.le_of_ble_eq_true rfl⟩ (fun H locs hM => ?_)
  refine mr_ifneB F (tgt := 18) dX7_makePack_9 (by decide) (fun c9 => ?_) (fun c9 => ?_)
  · have hx := c9
    obtain ⟨d, hd4, rfl⟩ := c9
    have ed := nD_nI (show d < 2 ^ 31 by omega)
    refine lv_aload_n F.1.1 F.1.2.1 dX7_makePack_18 rfl (lv_at hl 0 rfl) ?_
    refine tr_get F hd hM 0 (by decide) q1720 rfl dX7_makePack_19 ?_
    refine mr_bipush F 89 dX7_makePack_22 (by decide +kernel) ?_
    refine tr_ld1 F hd hM (by omega) rfl dX7_makePack_24 ?_
    refine mr_bipush F 6 dX7_makePack_25 (by decide +kernel) ?_
    refine lv_icmp_eq (tgt := 47) F.1.1 F.1.2.1 dX7_makePack_27 (by decide) (fun c27 => ?_) (fun c27 => ?_)
    · have hv : kMake r (nI d) = 2 := by unfold kMake; exact cd2_2 hx (fun q => q (Or.inl c27))
      refine lv_aload_n F.1.1 F.1.2.1 dX7_makePack_47 rfl (lv_at hl 0 rfl) ?_
      refine mr_iconst F 2 dX7_makePack_48 (by decide +kernel) ?_
      refine mc_Va (As := [_]) F hM (ct_fails l hd ) (cwV 1 F.1.2.2.2.2 (lw_V q1789 q1791 qs34 q88 q1792) rfl rfl rfl (by decide +kernel) (mRm_ok (by decide) (by decide))) (tM_0 hd) rfl rfl rfl rfl hl.1 rfl (Nat.le_of_ble_eq_true rfl) dX7_makePack_49 ⟨Nat.le_of_ble_eq_true rfl, Nat.le_of_ble_eq_true rfl⟩ (fun H locs hM => ?_)
      exact mr_iret F hQ hM (by first | exact Or.inl ⟨by rw [hv]; decide, rfl, by rw [hv, bx_uu]⟩ | exact Or.inr ⟨hv, by rw [show r 89 + nI 1 - nI 1 = r 89 by grind], by simp only [ed, enp]⟩) (Nat.le_of_ble_eq_true rfl) (Nat.le_of_ble_eq_true rfl) dX7_makePack_52
    · refine lv_aload_n F.1.1 F.1.2.1 dX7_makePack_30 rfl (lv_at hl 0 rfl) ?_
      refine tr_get F hd hM 0 (by decide) q1720 rfl dX7_makePack_31 ?_
      refine mr_bipush F 16 dX7_makePack_34 (by decide +kernel) ?_
      refine lv_iload_n F.1.1 F.1.2.1 dX7_makePack_36 rfl (lv_at hl 1 rfl) ?_
      refine mr_iconst F 3 dX7_makePack_37 (by decide +kernel) ?_
      refine mc_Sa (As := [_, _]) F hM (ct_head l ) (va_cwS 2 F.1.2.2.2.2 (lw_S q1793 q1794 q88 q1795) rfl rfl rfl (by decide +kernel) (mRm_ok (by decide) (by decide))) rfl rfl hl.1 rfl (Nat.le_of_ble_eq_true rfl) dX7_makePack_38 ⟨Nat.le_of_ble_eq_true rfl, Nat.le_of_ble_eq_true rfl⟩ (fun H locs hM => ?_)
      refine mr_iaddN F dX7_makePack_41 ?_
      refine tr_ld1 F hd hM (by omega) rfl dX7_makePack_42 ?_
      refine mr_iconst F 1 dX7_makePack_43 (by decide +kernel) ?_
      refine lv_icmp_ne (tgt := 53) F.1.1 F.1.2.1 dX7_makePack_44 (by decide) (fun c44 => ?_) (fun c44 => ?_)
      · have hv : kMake r (nI d) = 0 := by unfold kMake; exact cd2_0 hx (fun q => q.elim c27 (by rw [ed]; exact c44))
        have hn6 : np < 6 := by
          rcases Nat.lt_or_ge np 6 with q | q
          · exact q
          · exact absurd (by rw [hnp, show np = 6 by omega]) c27
        refine lv_aload_n F.1.1 F.1.2.1 dX7_makePack_53 rfl (lv_at hl 0 rfl) ?_
        refine mc_Vv (As := []) F hM (ct_records l hd (by assumption) (by omega)) (cwV 0 F.1.2.2.2.2 (lw_V q1800 q1802 qs36 q88 q1803) rfl rfl rfl (by decide +kernel) (mRm_ok (by decide) (by decide))) (tM_0 hd) rfl rfl rfl rfl hl.1 rfl (Nat.le_of_ble_eq_true rfl) dX7_makePack_54 ⟨Nat.le_of_ble_eq_true rfl, Nat.le_of_ble_eq_true rfl⟩ (fun H locs hM => ?_)
        refine lv_aload_n F.1.1 F.1.2.1 dX7_makePack_57 rfl (lv_at hl 0 rfl) ?_
        refine tr_get F hd hM 0 (by decide) q1720 rfl dX7_makePack_58 ?_
        refine mr_bipush F 90 dX7_makePack_61 (by decide +kernel) ?_
        refine lv_aload_n F.1.1 F.1.2.1 dX7_makePack_63 rfl (lv_at hl 0 rfl) ?_
        refine tr_get F hd hM 0 (by decide) q1720 rfl dX7_makePack_64 ?_
        refine mr_bipush F 89 dX7_makePack_67 (by decide +kernel) ?_
        refine tr_ld1 F hd hM (by omega) hnp dX7_makePack_69 ?_
        refine mr_iaddN F dX7_makePack_70 ?_
        refine lv_aload_n F.1.1 F.1.2.1 dX7_makePack_71 rfl (lv_at hl 0 rfl) ?_
        refine tr_get F hd hM 0 (by decide) q1720 rfl dX7_makePack_72 ?_
        refine mr_iconst F 0 dX7_makePack_75 (by decide +kernel) ?_
        refine lv_iload_n F.1.1 F.1.2.1 dX7_makePack_76 rfl (lv_at hl 1 rfl) ?_
        refine mr_iconst F 3 dX7_makePack_77 (by decide +kernel) ?_
        refine mc_Sa (As := [_, _]) F hM (ct_head l ) (va_cwS 2 F.1.2.2.2.2 (lw_S q1793 q1794 q88 q1795) rfl rfl rfl (by decide +kernel) (mRm_ok (by decide) (by decide))) rfl rfl hl.1 rfl (Nat.le_of_ble_eq_true rfl) dX7_makePack_78 ⟨Nat.le_of_ble_eq_true rfl, Nat.le_of_ble_eq_true rfl⟩ (fun H locs hM => ?_)
        refine mr_iaddN F dX7_makePack_81 ?_
        refine tr_ld1 F hd hM (by omega) rfl dX7_makePack_82 ?_
        refine lv_aload_n F.1.1 F.1.2.1 dX7_makePack_83 rfl (lv_at hl 0 rfl) ?_
        refine tr_get F hd hM 0 (by decide) q1720 rfl dX7_makePack_84 ?_
        refine mr_bipush F 48 dX7_makePack_87 (by decide +kernel) ?_
        refine lv_iload_n F.1.1 F.1.2.1 dX7_makePack_89 rfl (lv_at hl 1 rfl) ?_
        refine mr_iaddN F dX7_makePack_90 ?_
        refine tr_ld1 F hd hM (by omega) rfl dX7_makePack_91 ?_
        refine lv_iadd F.1.1 F.1.2.1 dX7_makePack_92 ?_
        refine tr_st1 F hd hM (by omega) dX7_makePack_93 (fun H locs hM => ?_)
        refine lv_aload_n F.1.1 F.1.2.1 dX7_makePack_94 rfl (lv_at hl 0 rfl) ?_
        refine tr_get F hd hM 0 (by decide) q1720 rfl dX7_makePack_95 ?_
        refine mr_bipush F 89 dX7_makePack_98 (by decide +kernel) ?_
        refine lv_dup2_11 F.1.1 F.1.2.1 dX7_makePack_100 rfl rfl ?_
        refine tr_ld1 F hd hM (by omega) (va_up_ne _ _ (by omega)) dX7_makePack_101 ?_
        refine mr_iconst F 1 dX7_makePack_102 (by decide +kernel) ?_
        refine lv_iadd F.1.1 F.1.2.1 dX7_makePack_103 ?_
        refine tr_st1 F hd hM (by omega) dX7_makePack_104 (fun H locs hM => ?_)
        refine lv_aload_n F.1.1 F.1.2.1 dX7_makePack_105 rfl (lv_at hl 0 rfl) ?_
        refine tr_get F hd hM 0 (by decide) q1720 rfl dX7_makePack_106 ?_
        refine mr_bipush F 89 dX7_makePack_109 (by decide +kernel) ?_
        refine tr_ld1 F hd hM (by omega) (va_up_self _ _ _) dX7_makePack_111 ?_
        refine mr_iconst F 1 dX7_makePack_112 (by decide +kernel) ?_
        refine lv_isub F.1.1 F.1.2.1 dX7_makePack_113 ?_
        exact mr_iret F hQ hM (by first | exact Or.inl ⟨by rw [hv]; decide, rfl, by rw [hv, bx_uu]⟩ | exact Or.inr ⟨hv, by rw [show r 89 + nI 1 - nI 1 = r 89 by grind], by simp only [ed, enp]⟩) (Nat.le_of_ble_eq_true rfl) (Nat.le_of_ble_eq_true rfl) dX7_makePack_114
      · have hv : kMake r (nI d) = 2 := by unfold kMake; exact cd2_2 hx (fun q => q (Or.inr (by rw [ed]; exact c44)))
        refine lv_aload_n F.1.1 F.1.2.1 dX7_makePack_47 rfl (lv_at hl 0 rfl) ?_
        refine mr_iconst F 2 dX7_makePack_48 (by decide +kernel) ?_
        refine mc_Va (As := [_]) F hM (ct_fails l hd ) (cwV 1 F.1.2.2.2.2 (lw_V q1789 q1791 qs34 q88 q1792) rfl rfl rfl (by decide +kernel) (mRm_ok (by decide) (by decide))) (tM_0 hd) rfl rfl rfl rfl hl.1 rfl (Nat.le_of_ble_eq_true rfl) dX7_makePack_49 ⟨Nat.le_of_ble_eq_true rfl, Nat.le_of_ble_eq_true rfl⟩ (fun H locs hM => ?_)
        exact mr_iret F hQ hM (by first | exact Or.inl ⟨by rw [hv]; decide, rfl, by rw [hv, bx_uu]⟩ | exact Or.inr ⟨hv, by rw [show r 89 + nI 1 - nI 1 = r 89 by grind], by simp only [ed, enp]⟩) (Nat.le_of_ble_eq_true rfl) (Nat.le_of_ble_eq_true rfl) dX7_makePack_52
  · have hv : kMake r x = 1 := by unfold kMake; exact cd2_1 c9
    refine lv_aload_n F.1.1 F.1.2.1 dX7_makePack_12 rfl (lv_at hl 0 rfl) ?_
    refine mr_iconst F 1 dX7_makePack_13 (by decide +kernel) ?_
    refine mc_Va (As := [_]) F hM (ct_fails l hd ) (cwV 1 F.1.2.2.2.2 (lw_V q1789 q1791 qs34 q88 q1792) rfl rfl rfl (by decide +kernel) (mRm_ok (by decide) (by decide))) (tM_0 hd) rfl rfl rfl rfl hl.1 rfl (Nat.le_of_ble_eq_true rfl) dX7_makePack_14 ⟨Nat.le_of_ble_eq_true rfl, Nat.le_of_ble_eq_true rfl⟩ (fun H locs hM => ?_)
    exact mr_iret F hQ hM (by first | exact Or.inl ⟨by rw [hv]; decide, rfl, by rw [hv, bx_uu]⟩ | exact Or.inr ⟨hv, by rw [show r 89 + nI 1 - nI 1 = r 89 by grind], by simp only [ed, enp]⟩) (Nat.le_of_ble_eq_true rfl) (Nat.le_of_ble_eq_true rfl) dX7_makePack_17
set_option maxHeartbeats 4000000 in
theorem ct_mount (l : Launch) {G : mG} {ad : Nat → Nat} {g r : Nat → Int32} {f : Nat → UInt32} {h : tH} {b : Nat → Int32} {M0 : mM} {m0 : Nat} {x z : Int32} (hd : tAd ad) (hI : mInv r f) (hg : g 4 = nI m0) (hm : m0 ≤ 5) : mMet l yX7_mount (ws_ yX7_mount cX7_mount 5 (some .int)) (mRm 4 0 0) [.ref (ad 0), .int x, .int z] G (pPre (tM G ad g r f h b M0)) (qPost (kMount r x z) (.int (nI 0)) (.int (r (64 + 6 * nD x + nD z))) (tM G ad (va_up g 10 (nI (kMount r x z))) r f h b M0) (tM G ad (va_up (va_up g 10 (nI 0)) 4 (nI (mK m0 + 1))) (va_up r (60 + nD x) z) (f) (mRc m0 h r f) b M0)) := by
  refine mMet.of (by decide +kernel) (Nat.le_of_ble_eq_true rfl) fun p e s m args below meth c A Q M hM0 F hnm hQ hM ls hl => ?_
  have hM0 : M = tM G ad g r f h b M0 := hM0
  subst hM0
  have hl : lv_has ls 5 [(0, .ref (ad 0)), (1, .int x), (2, .int z)] := hl
  obtain ⟨np, hnp, hnp6, hpk, hun⟩ := hI.1
  have enp : nD (r 89) = np := by rw [hnp]; exact nD_nI (by omega)
  refine lv_aload_n F.1.1 F.1.2.1 dX7_mount_0 rfl (lv_at hl 0 rfl) ?_
  refine mr_iconst F 0 dX7_mount_1 (by decide +kernel) ?_
  refine tr_put F hd hM 10 (by decide) q1730 rfl rfl rfl (tw_s10 _ _ _) dX7_mount_2 (fun H locs hM => ?_)
  refine lv_aload_n F.1.1 F.1.2.1 dX7_mount_5 rfl (lv_at hl 0 rfl) ?_
  refine lv_iload_n F.1.1 F.1.2.1 dX7_mount_6 rfl (lv_at hl 1 rfl) ?_
  refine lv_iload_n F.1.1 F.1.2.1 dX7_mount_7 rfl (lv_at hl 2 rfl) ?_
  refine mc_Va (As := [_, _]) F hM (ct_mountRefusal l hd (by assumption) (by omega)) (cwV 2 F.1.2.2.2.2 (lw_V q1828 q1830 qs39 q88 q1831) rfl rfl rfl (by decide +kernel) (mRm_ok (by decide) (by decide))) (tM_0 hd) rfl rfl rfl rfl hl.1 rfl (Nat.le_of_ble_eq_true rfl) dX7_mount_8 ⟨Nat.le_of_ble_eq_true rfl, Nat.le_of_ble_eq_true rfl⟩ (fun H locs hM => ?_)
  refine lv_istore_n (lv' := [(3, _), (0, _), (1, _), (2, _)]) F.1.1 F.1.2.1 dX7_mount_11 rfl hl (by decide) rfl (fun ls hl => ?_)
  refine lv_iload_n F.1.1 F.1.2.1 dX7_mount_12 rfl (lv_at hl 0 rfl) ?_
  have hkb : kMount r x z < 2 ^ 31 := Nat.lt_of_le_of_lt (cd2_le _ _) (by decide)
  refine mr_ifleN F (tgt := 22) dX7_mount_13 (by decide) (by omega) (fun c13 => ?_) (fun c13 => ?_)
  · obtain ⟨⟨⟨d, hd4, rfl⟩, ⟨n, hn4, rfl⟩⟩, -⟩ := cd2_z c13
    rw [enp] at hn4
    have ed := nD_nI (show d < 2 ^ 31 by omega)
    have en := nD_nI (show n < 2 ^ 31 by omega)
    refine lv_aload_n F.1.1 F.1.2.1 dX7_mount_22 rfl (lv_at hl 1 rfl) ?_
    refine mr_bipush F 60 dX7_mount_23 (by decide +kernel) ?_
    refine lv_iload_n F.1.1 F.1.2.1 dX7_mount_25 rfl (lv_at hl 2 rfl) ?_
    refine mr_iaddN F dX7_mount_26 ?_
    refine lv_iload_n F.1.1 F.1.2.1 dX7_mount_27 rfl (lv_at hl 3 rfl) ?_
    refine mc_Va (As := [_, _]) F hM (ct_sets l hd (by assumption) (by omega) (by omega)) (cwV 2 F.1.2.2.2.2 (lw_V q1796 q1798 qs35 q88 q1799) rfl rfl rfl (by decide +kernel) (mRm_ok (by decide) (by decide))) (tM_0 hd) rfl rfl rfl rfl hl.1 rfl (Nat.le_of_ble_eq_true rfl) dX7_mount_28 ⟨Nat.le_of_ble_eq_true rfl, Nat.le_of_ble_eq_true rfl⟩ (fun H locs hM => ?_)
    refine lv_istore (lv' := [(4, _), (3, _), (0, _), (1, _), (2, _)]) F.1.1 F.1.2.1 dX7_mount_31 hl (by decide) rfl (fun ls hl => ?_)
    refine lv_aload_n F.1.1 F.1.2.1 dX7_mount_33 rfl (lv_at hl 2 rfl) ?_
    refine tr_get F hd hM 0 (by decide) q1720 rfl dX7_mount_34 ?_
    refine lv_aload_n F.1.1 F.1.2.1 dX7_mount_37 rfl (lv_at hl 2 rfl) ?_
    refine lv_iload_n F.1.1 F.1.2.1 dX7_mount_38 rfl (lv_at hl 3 rfl) ?_
    refine lv_iload_n F.1.1 F.1.2.1 dX7_mount_39 rfl (lv_at hl 4 rfl) ?_
    refine mc_Va (As := [_, _]) F hM (ct_learnedAt l hd ) (cwV 2 F.1.2.2.2.2 (lw_V q1840 q1842 qs42 q88 q1843) rfl rfl rfl (by decide +kernel) (mRm_ok (by decide) (by decide))) (tM_0 hd) rfl rfl rfl rfl hl.1 rfl (Nat.le_of_ble_eq_true rfl) dX7_mount_40 ⟨Nat.le_of_ble_eq_true rfl, Nat.le_of_ble_eq_true rfl⟩ (fun H locs hM => ?_)
    refine tr_ld1 F hd hM (by omega) (va_up_ne _ _ (by omega)) dX7_mount_43 ?_
    exact mr_iret F hQ hM (by first | exact Or.inl ⟨c13, rfl, by rw [bx_uu]⟩ | exact Or.inr ⟨c13, by simp only [ed, en], by simp only [ed, en]⟩) (Nat.le_of_ble_eq_true rfl) (Nat.le_of_ble_eq_true rfl) dX7_mount_44
  · refine lv_aload_n F.1.1 F.1.2.1 dX7_mount_16 rfl (lv_at hl 1 rfl) ?_
    refine lv_iload_n F.1.1 F.1.2.1 dX7_mount_17 rfl (lv_at hl 0 rfl) ?_
    refine mc_Va (As := [_]) F hM (ct_fails l hd ) (cwV 1 F.1.2.2.2.2 (lw_V q1789 q1791 qs34 q88 q1792) rfl rfl rfl (by decide +kernel) (mRm_ok (by decide) (by decide))) (tM_0 hd) rfl rfl rfl rfl hl.1 rfl (Nat.le_of_ble_eq_true rfl) dX7_mount_18 ⟨Nat.le_of_ble_eq_true rfl, Nat.le_of_ble_eq_true rfl⟩ (fun H locs hM => ?_)
    exact mr_iret F hQ hM (by first | exact Or.inl ⟨c13, rfl, by rw [bx_uu]⟩ | exact Or.inr ⟨c13, by simp only [ed, en], by simp only [ed, en]⟩) (Nat.le_of_ble_eq_true rfl) (Nat.le_of_ble_eq_true rfl) dX7_mount_21
set_option maxHeartbeats 4000000 in
theorem ct_unmount (l : Launch) {G : mG} {ad : Nat → Nat} {g r : Nat → Int32} {f : Nat → UInt32} {h : tH} {b : Nat → Int32} {M0 : mM} {m0 : Nat} {x : Int32} (hd : tAd ad) (hI : mInv r f) (hg : g 4 = nI m0) (hm : m0 ≤ 5) : mMet l yX7_unmount (ws_ yX7_unmount cX7_unmount 3 (some .int)) (mRm 4 0 0) [.ref (ad 0), .int x] G (pPre (tM G ad g r f h b M0)) (qPost (kPack r x) (.int (nI 0)) (.int (r (60 + nD x))) (tM G ad (va_up g 10 (nI (kPack r x))) r f h b M0) (tM G ad (va_up (va_up g 10 (nI 0)) 4 (nI (mK m0 + 1))) (nUnm r (nD x)) (f) (mRc m0 h r f) b M0)) := by
  refine mMet.of (by decide +kernel) (Nat.le_of_ble_eq_true rfl) fun p e s m args below meth c A Q M hM0 F hnm hQ hM ls hl => ?_
  have hM0 : M = tM G ad g r f h b M0 := hM0
  subst hM0
  have hl : lv_has ls 3 [(0, .ref (ad 0)), (1, .int x)] := hl
  obtain ⟨np, hnp, hnp6, hpk, hun⟩ := hI.1
  have enp : nD (r 89) = np := by rw [hnp]; exact nD_nI (by omega)
  refine lv_aload_n F.1.1 F.1.2.1 dX7_unmount_0 rfl (lv_at hl 0 rfl) ?_
  refine mr_iconst F 0 dX7_unmount_1 (by decide +kernel) ?_
  refine tr_put F hd hM 10 (by decide) q1730 rfl rfl rfl (tw_s10 _ _ _) dX7_unmount_2 (fun H locs hM => ?_)
  refine lv_aload_n F.1.1 F.1.2.1 dX7_unmount_5 rfl (lv_at hl 0 rfl) ?_
  refine lv_iload_n F.1.1 F.1.2.1 dX7_unmount_6 rfl (lv_at hl 1 rfl) ?_
  refine mc_Va (As := [_]) F hM (ct_packRefusal l hd ) (cwV 1 F.1.2.2.2.2 (lw_V q1848 q1850 qs43 q88 q1851) rfl rfl rfl (by decide +kernel) (mRm_ok (by decide) (by decide))) (tM_0 hd) rfl rfl rfl rfl hl.1 rfl (Nat.le_of_ble_eq_true rfl) dX7_unmount_7 ⟨Nat.le_of_ble_eq_true rfl, Nat.le_of_ble_eq_true rfl⟩ (fun H locs hM => ?_)
  refine lv_istore_n (lv' := [(2, _), (0, _), (1, _)]) F.1.1 F.1.2.1 dX7_unmount_10 rfl hl (by decide) rfl (fun ls hl => ?_)
  refine lv_iload_n F.1.1 F.1.2.1 dX7_unmount_11 rfl (lv_at hl 0 rfl) ?_
  have hkb : kPack r x < 2 ^ 31 := Nat.lt_of_le_of_lt (cd2_le _ _) (by decide)
  refine mr_ifleN F (tgt := 21) dX7_unmount_12 (by decide) (by omega) (fun c12 => ?_) (fun c12 => ?_)
  · obtain ⟨⟨d, hd4, rfl⟩, -⟩ := cd2_z c12
    have ed := nD_nI (show d < 2 ^ 31 by omega)
    refine lv_aload_n F.1.1 F.1.2.1 dX7_unmount_21 rfl (lv_at hl 1 rfl) ?_
    refine mc_Vv (As := []) F hM (ct_records l hd (by assumption) (by omega)) (cwV 0 F.1.2.2.2.2 (lw_V q1800 q1802 qs36 q88 q1803) rfl rfl rfl (by decide +kernel) (mRm_ok (by decide) (by decide))) (tM_0 hd) rfl rfl rfl rfl hl.1 rfl (Nat.le_of_ble_eq_true rfl) dX7_unmount_22 ⟨Nat.le_of_ble_eq_true rfl, Nat.le_of_ble_eq_true rfl⟩ (fun H locs hM => ?_)
    refine lv_aload_n F.1.1 F.1.2.1 dX7_unmount_25 rfl (lv_at hl 1 rfl) ?_
    refine lv_iload_n F.1.1 F.1.2.1 dX7_unmount_26 rfl (lv_at hl 2 rfl) ?_
    refine mc_Va (As := [_]) F hM (ct_unmounts l hd (by omega)) (cwV 1 F.1.2.2.2.2 (lw_V q1852 q1854 qs44 q88 q1855) rfl rfl rfl (by decide +kernel) (mRm_ok (by decide) (by decide))) (tM_0 hd) rfl rfl rfl rfl hl.1 rfl (Nat.le_of_ble_eq_true rfl) dX7_unmount_27 ⟨Nat.le_of_ble_eq_true rfl, Nat.le_of_ble_eq_true rfl⟩ (fun H locs hM => ?_)
    exact mr_iret F hQ hM (by first | exact Or.inl ⟨c12, rfl, by rw [bx_uu]⟩ | exact Or.inr ⟨c12, by simp only [ed], by simp only [ed]⟩) (Nat.le_of_ble_eq_true rfl) (Nat.le_of_ble_eq_true rfl) dX7_unmount_30
  · refine lv_aload_n F.1.1 F.1.2.1 dX7_unmount_15 rfl (lv_at hl 1 rfl) ?_
    refine lv_iload_n F.1.1 F.1.2.1 dX7_unmount_16 rfl (lv_at hl 0 rfl) ?_
    refine mc_Va (As := [_]) F hM (ct_fails l hd ) (cwV 1 F.1.2.2.2.2 (lw_V q1789 q1791 qs34 q88 q1792) rfl rfl rfl (by decide +kernel) (mRm_ok (by decide) (by decide))) (tM_0 hd) rfl rfl rfl rfl hl.1 rfl (Nat.le_of_ble_eq_true rfl) dX7_unmount_17 ⟨Nat.le_of_ble_eq_true rfl, Nat.le_of_ble_eq_true rfl⟩ (fun H locs hM => ?_)
    exact mr_iret F hQ hM (by first | exact Or.inl ⟨c12, rfl, by rw [bx_uu]⟩ | exact Or.inr ⟨c12, by simp only [ed], by simp only [ed]⟩) (Nat.le_of_ble_eq_true rfl) (Nat.le_of_ble_eq_true rfl) dX7_unmount_20
set_option maxHeartbeats 4000000 in
theorem ct_seek (l : Launch) {G : mG} {ad : Nat → Nat} {g r : Nat → Int32} {f : Nat → UInt32} {h : tH} {b : Nat → Int32} {M0 : mM} {m0 : Nat} {x z : Int32} (hd : tAd ad) (hI : mInv r f) (hg : g 4 = nI m0) (hm : m0 ≤ 5) : mMet l yX7_seek (ws_ yX7_seek cX7_seek 4 (some .int)) (mRm 5 0 0) [.ref (ad 0), .int x, .int z] G (pPre (tM G ad g r f h b M0)) (qPost (kSeek r x z) (.int (nI 0)) (.int (mAb (z - r (52 + nD x)))) (tM G ad (va_up g 10 (nI (kSeek r x z))) r f h b M0) (tM G ad (va_up (va_up g 10 (nI 0)) 4 (nI (mK m0 + 1))) (va_up r (52 + nD x) z) (f) (mRc m0 h r f) b M0)) := by
  refine mMet.of (by decide +kernel) (Nat.le_of_ble_eq_true rfl) fun p e s m args below meth c A Q M hM0 F hnm hQ hM ls hl => ?_
  have hM0 : M = tM G ad g r f h b M0 := hM0
  subst hM0
  have hl : lv_has ls 4 [(0, .ref (ad 0)), (1, .int x), (2, .int z)] := hl
  obtain ⟨np, hnp, hnp6, hpk, hun⟩ := hI.1
  have enp : nD (r 89) = np := by rw [hnp]; exact nD_nI (by omega)
  refine lv_aload_n F.1.1 F.1.2.1 dX7_seek_0 rfl (lv_at hl 0 rfl) ?_
  refine mr_iconst F 0 dX7_seek_1 (by decide +kernel) ?_
  refine tr_put F hd hM 10 (by decide) q1730 rfl rfl rfl (tw_s10 _ _ _) dX7_seek_2 (fun H locs hM => ?_)
  refine lv_aload_n F.1.1 F.1.2.1 dX7_seek_5 rfl (lv_at hl 0 rfl) ?_
  refine lv_iload_n F.1.1 F.1.2.1 dX7_seek_6 rfl (lv_at hl 1 rfl) ?_
  refine lv_iload_n F.1.1 F.1.2.1 dX7_seek_7 rfl (lv_at hl 2 rfl) ?_
  refine mc_Va (As := [_, _]) F hM (ct_seekRefusal l hd ) (cwV 2 F.1.2.2.2.2 (lw_V q1860 q1862 qs45 q88 q1863) rfl rfl rfl (by decide +kernel) (mRm_ok (by decide) (by decide))) (tM_0 hd) rfl rfl rfl rfl hl.1 rfl (Nat.le_of_ble_eq_true rfl) dX7_seek_8 ⟨Nat.le_of_ble_eq_true rfl, Nat.le_of_ble_eq_true rfl⟩ (fun H locs hM => ?_)
  refine lv_istore_n (lv' := [(3, _), (0, _), (1, _), (2, _)]) F.1.1 F.1.2.1 dX7_seek_11 rfl hl (by decide) rfl (fun ls hl => ?_)
  refine lv_iload_n F.1.1 F.1.2.1 dX7_seek_12 rfl (lv_at hl 0 rfl) ?_
  have hkb : kSeek r x z < 2 ^ 31 := Nat.lt_of_le_of_lt (cd2_le _ _) (by decide)
  refine mr_ifleN F (tgt := 22) dX7_seek_13 (by decide) (by omega) (fun c13 => ?_) (fun c13 => ?_)
  · obtain ⟨⟨⟨d, hd4, rfl⟩, -⟩, -⟩ := cd2_z c13
    have ed := nD_nI (show d < 2 ^ 31 by omega)
    refine lv_aload_n F.1.1 F.1.2.1 dX7_seek_22 rfl (lv_at hl 1 rfl) ?_
    refine mc_Vv (As := []) F hM (ct_records l hd (by assumption) (by omega)) (cwV 0 F.1.2.2.2.2 (lw_V q1800 q1802 qs36 q88 q1803) rfl rfl rfl (by decide +kernel) (mRm_ok (by decide) (by decide))) (tM_0 hd) rfl rfl rfl rfl hl.1 rfl (Nat.le_of_ble_eq_true rfl) dX7_seek_23 ⟨Nat.le_of_ble_eq_true rfl, Nat.le_of_ble_eq_true rfl⟩ (fun H locs hM => ?_)
    refine lv_aload_n F.1.1 F.1.2.1 dX7_seek_26 rfl (lv_at hl 1 rfl) ?_
    refine lv_iload_n F.1.1 F.1.2.1 dX7_seek_27 rfl (lv_at hl 2 rfl) ?_
    refine lv_iload_n F.1.1 F.1.2.1 dX7_seek_28 rfl (lv_at hl 3 rfl) ?_
    refine mc_Va (As := [_, _]) F hM (ct_seeks l hd (by omega)) (cwV 2 F.1.2.2.2.2 (lw_V q1867 q1869 qs46 q88 q1870) rfl rfl rfl (by decide +kernel) (mRm_ok (by decide) (by decide))) (tM_0 hd) rfl rfl rfl rfl hl.1 rfl (Nat.le_of_ble_eq_true rfl) dX7_seek_29 ⟨Nat.le_of_ble_eq_true rfl, Nat.le_of_ble_eq_true rfl⟩ (fun H locs hM => ?_)
    exact mr_iret F hQ hM (by first | exact Or.inl ⟨c13, rfl, by rw [bx_uu]⟩ | exact Or.inr ⟨c13, by simp only [ed], by simp only [ed]⟩) (Nat.le_of_ble_eq_true rfl) (Nat.le_of_ble_eq_true rfl) dX7_seek_32
  · refine lv_aload_n F.1.1 F.1.2.1 dX7_seek_16 rfl (lv_at hl 1 rfl) ?_
    refine lv_iload_n F.1.1 F.1.2.1 dX7_seek_17 rfl (lv_at hl 0 rfl) ?_
    refine mc_Va (As := [_]) F hM (ct_fails l hd ) (cwV 1 F.1.2.2.2.2 (lw_V q1789 q1791 qs34 q88 q1792) rfl rfl rfl (by decide +kernel) (mRm_ok (by decide) (by decide))) (tM_0 hd) rfl rfl rfl rfl hl.1 rfl (Nat.le_of_ble_eq_true rfl) dX7_seek_18 ⟨Nat.le_of_ble_eq_true rfl, Nat.le_of_ble_eq_true rfl⟩ (fun H locs hM => ?_)
    exact mr_iret F hQ hM (by first | exact Or.inl ⟨c13, rfl, by rw [bx_uu]⟩ | exact Or.inr ⟨c13, by simp only [ed], by simp only [ed]⟩) (Nat.le_of_ble_eq_true rfl) (Nat.le_of_ble_eq_true rfl) dX7_seek_21
set_option maxHeartbeats 4000000 in
theorem ct_setTries (l : Launch) {G : mG} {ad : Nat → Nat} {g r : Nat → Int32} {f : Nat → UInt32} {h : tH} {b : Nat → Int32} {M0 : mM} {m0 : Nat} {u : Int32} (hd : tAd ad) (hI : mInv r f) (hg : g 4 = nI m0) (hm : m0 ≤ 5) : mMet l yX7_setTries (ws_ yX7_setTries cX7_setTries 2 (some .int)) (mRm 3 0 0) [.ref (ad 0), .int u] G (pPre (tM G ad g r f h b M0)) (qPost (kTries u) (.int (nI 0)) (.int (r 88)) (tM G ad (va_up g 10 (nI (kTries u))) r f h b M0) (tM G ad (va_up (va_up g 10 (nI 0)) 4 (nI (mK m0 + 1))) (va_up r 88 u) (f) (mRc m0 h r f) b M0)) := by
  refine mMet.of (by decide +kernel) (Nat.le_of_ble_eq_true rfl) fun p e s m args below meth c A Q M hM0 F hnm hQ hM ls hl => ?_
  have hM0 : M = tM G ad g r f h b M0 := hM0
  subst hM0
  have hl : lv_has ls 2 [(0, .ref (ad 0)), (1, .int u)] := hl
  obtain ⟨np, hnp, hnp6, hpk, hun⟩ := hI.1
  have enp : nD (r 89) = np := by rw [hnp]; exact nD_nI (by omega)
  refine lv_aload_n F.1.1 F.1.2.1 dX7_setTries_0 rfl (lv_at hl 0 rfl) ?_
  refine mr_iconst F 0 dX7_setTries_1 (by decide +kernel) ?_
  refine tr_put F hd hM 10 (by decide) q1730 rfl rfl rfl (tw_s10 _ _ _) dX7_setTries_2 (fun H locs hM => ?_)
  refine lv_iload_n F.1.1 F.1.2.1 dX7_setTries_5 rfl (lv_at hl 1 rfl) ?_
  refine mr_iconst F 0 dX7_setTries_6 (by decide +kernel) ?_
  refine mr_bipush F 8 dX7_setTries_7 (by decide +kernel) ?_
  refine mc_Sa (As := [_, _, _]) F hM (ct_in l ) (va_cwS 3 F.1.2.2.2.2 (lw_S q1783 q1784 q88 q1785) rfl rfl rfl (by decide +kernel) (mRm_ok (by decide) (by decide))) rfl rfl hl.1 rfl (Nat.le_of_ble_eq_true rfl) dX7_setTries_9 ⟨Nat.le_of_ble_eq_true rfl, Nat.le_of_ble_eq_true rfl⟩ (fun H locs hM => ?_)
  refine mr_ifeqB F (tgt := 25) dX7_setTries_12 (by decide) (fun c12 => ?_) (fun c12 => ?_)
  · have hv : kTries u = 1 := by unfold kTries; exact cd1_1 (fun q => c12 ((inN_iff (show 8 < 2 ^ 31 by decide)).mpr q))
    refine lv_aload_n F.1.1 F.1.2.1 dX7_setTries_25 rfl (lv_at hl 0 rfl) ?_
    refine mr_iconst F 1 dX7_setTries_26 (by decide +kernel) ?_
    refine mc_Va (As := [_]) F hM (ct_fails l hd ) (cwV 1 F.1.2.2.2.2 (lw_V q1789 q1791 qs34 q88 q1792) rfl rfl rfl (by decide +kernel) (mRm_ok (by decide) (by decide))) (tM_0 hd) rfl rfl rfl rfl hl.1 rfl (Nat.le_of_ble_eq_true rfl) dX7_setTries_27 ⟨Nat.le_of_ble_eq_true rfl, Nat.le_of_ble_eq_true rfl⟩ (fun H locs hM => ?_)
    exact mr_iret F hQ hM (by first | exact Or.inl ⟨by rw [hv]; decide, rfl, by rw [hv, bx_uu]⟩ | exact Or.inr ⟨hv, rfl, rfl⟩) (Nat.le_of_ble_eq_true rfl) (Nat.le_of_ble_eq_true rfl) dX7_setTries_30
  · have hv : kTries u = 0 := by unfold kTries; exact cd1_0 ((inN_iff (show 8 < 2 ^ 31 by decide)).mp c12)
    refine lv_aload_n F.1.1 F.1.2.1 dX7_setTries_15 rfl (lv_at hl 0 rfl) ?_
    refine mr_bipush F 88 dX7_setTries_16 (by decide +kernel) ?_
    refine lv_iload_n F.1.1 F.1.2.1 dX7_setTries_18 rfl (lv_at hl 1 rfl) ?_
    refine mc_Va (As := [_, _]) F hM (ct_sets l hd (by assumption) (by omega) (by omega)) (cwV 2 F.1.2.2.2.2 (lw_V q1796 q1798 qs35 q88 q1799) rfl rfl rfl (by decide +kernel) (mRm_ok (by decide) (by decide))) (tM_0 hd) rfl rfl rfl rfl hl.1 rfl (Nat.le_of_ble_eq_true rfl) dX7_setTries_19 ⟨Nat.le_of_ble_eq_true rfl, Nat.le_of_ble_eq_true rfl⟩ (fun H locs hM => ?_)
    refine lv_goto (tgt := 30) F.1.1 F.1.2.1 dX7_setTries_22 (by decide) ?_
    exact mr_iret F hQ hM (by first | exact Or.inl ⟨by rw [hv]; decide, rfl, by rw [hv, bx_uu]⟩ | exact Or.inr ⟨hv, rfl, rfl⟩) (Nat.le_of_ble_eq_true rfl) (Nat.le_of_ble_eq_true rfl) dX7_setTries_30
set_option maxHeartbeats 4000000 in
theorem ct_forget (l : Launch) {G : mG} {ad : Nat → Nat} {g r : Nat → Int32} {f : Nat → UInt32} {h : tH} {b : Nat → Int32} {M0 : mM} {m0 : Nat} {x z : Int32} (hd : tAd ad) (hI : mInv r f) (hg : g 4 = nI m0) (hm : m0 ≤ 5) : mMet l yX7_forget (ws_ yX7_forget cX7_forget 3 (some .int)) (mRm 3 0 0) [.ref (ad 0), .int x, .int z] G (pPre (tM G ad g r f h b M0)) (qPost (kDp r x z) (.int (nI 0)) (.int (r (64 + 6 * nD x + nD z))) (tM G ad (va_up g 10 (nI (kDp r x z))) r f h b M0) (tM G ad (va_up (va_up g 10 (nI 0)) 4 (nI (mK m0 + 1))) (va_up r (64 + 6 * nD x + nD z) (nI 0)) (f) (mRc m0 h r f) b M0)) := by
  refine mMet.of (by decide +kernel) (Nat.le_of_ble_eq_true rfl) fun p e s m args below meth c A Q M hM0 F hnm hQ hM ls hl => ?_
  have hM0 : M = tM G ad g r f h b M0 := hM0
  subst hM0
  have hl : lv_has ls 3 [(0, .ref (ad 0)), (1, .int x), (2, .int z)] := hl
  obtain ⟨np, hnp, hnp6, hpk, hun⟩ := hI.1
  have enp : nD (r 89) = np := by rw [hnp]; exact nD_nI (by omega)
  refine lv_aload_n F.1.1 F.1.2.1 dX7_forget_0 rfl (lv_at hl 0 rfl) ?_
  refine mr_iconst F 0 dX7_forget_1 (by decide +kernel) ?_
  refine tr_put F hd hM 10 (by decide) q1730 rfl rfl rfl (tw_s10 _ _ _) dX7_forget_2 (fun H locs hM => ?_)
  refine lv_iload_n F.1.1 F.1.2.1 dX7_forget_5 rfl (lv_at hl 1 rfl) ?_
  refine mc_Sa (As := [_]) F hM (ct_isDrive l ) (va_cwS 1 F.1.2.2.2.2 (lw_S q1780 q1781 q88 q1782) rfl rfl rfl (by decide +kernel) (mRm_ok (by decide) (by decide))) rfl rfl hl.1 rfl (Nat.le_of_ble_eq_true rfl) dX7_forget_6 ⟨Nat.le_of_ble_eq_true rfl, Nat.le_of_ble_eq_true rfl⟩ (fun H locs hM => ?_)
  refine mr_ifeqB F (tgt := 34) dX7_forget_9 (by decide) (fun c9 => ?_) (fun c9 => ?_)
  · have hv : kDp r x z = 1 := by unfold kDp; exact cd1_1 (fun q => c9 q.1)
    refine lv_aload_n F.1.1 F.1.2.1 dX7_forget_34 rfl (lv_at hl 0 rfl) ?_
    refine mr_iconst F 1 dX7_forget_35 (by decide +kernel) ?_
    refine mc_Va (As := [_]) F hM (ct_fails l hd ) (cwV 1 F.1.2.2.2.2 (lw_V q1789 q1791 qs34 q88 q1792) rfl rfl rfl (by decide +kernel) (mRm_ok (by decide) (by decide))) (tM_0 hd) rfl rfl rfl rfl hl.1 rfl (Nat.le_of_ble_eq_true rfl) dX7_forget_36 ⟨Nat.le_of_ble_eq_true rfl, Nat.le_of_ble_eq_true rfl⟩ (fun H locs hM => ?_)
    exact mr_iret F hQ hM (by first | exact Or.inl ⟨by rw [hv]; decide, rfl, by rw [hv, bx_uu]⟩ | exact Or.inr ⟨hv, by simp only [ed, en], by simp only [ed, en]⟩) (Nat.le_of_ble_eq_true rfl) (Nat.le_of_ble_eq_true rfl) dX7_forget_39
  · refine lv_aload_n F.1.1 F.1.2.1 dX7_forget_12 rfl (lv_at hl 0 rfl) ?_
    refine lv_iload_n F.1.1 F.1.2.1 dX7_forget_13 rfl (lv_at hl 2 rfl) ?_
    refine mc_Va (As := [_]) F hM (ct_isPack l hd (by assumption) (by omega)) (cwV 1 F.1.2.2.2.2 (lw_V q1832 q1834 qs40 q88 q1835) rfl rfl rfl (by decide +kernel) (mRm_ok (by decide) (by decide))) (tM_0 hd) rfl rfl rfl rfl hl.1 rfl (Nat.le_of_ble_eq_true rfl) dX7_forget_14 ⟨Nat.le_of_ble_eq_true rfl, Nat.le_of_ble_eq_true rfl⟩ (fun H locs hM => ?_)
    refine mr_ifeqB F (tgt := 34) dX7_forget_17 (by decide) (fun c17 => ?_) (fun c17 => ?_)
    · have hv : kDp r x z = 1 := by unfold kDp; rw [enp]; exact cd1_1 (fun q => c17 q.2)
      refine lv_aload_n F.1.1 F.1.2.1 dX7_forget_34 rfl (lv_at hl 0 rfl) ?_
      refine mr_iconst F 1 dX7_forget_35 (by decide +kernel) ?_
      refine mc_Va (As := [_]) F hM (ct_fails l hd ) (cwV 1 F.1.2.2.2.2 (lw_V q1789 q1791 qs34 q88 q1792) rfl rfl rfl (by decide +kernel) (mRm_ok (by decide) (by decide))) (tM_0 hd) rfl rfl rfl rfl hl.1 rfl (Nat.le_of_ble_eq_true rfl) dX7_forget_36 ⟨Nat.le_of_ble_eq_true rfl, Nat.le_of_ble_eq_true rfl⟩ (fun H locs hM => ?_)
      exact mr_iret F hQ hM (by first | exact Or.inl ⟨by rw [hv]; decide, rfl, by rw [hv, bx_uu]⟩ | exact Or.inr ⟨hv, by simp only [ed, en], by simp only [ed, en]⟩) (Nat.le_of_ble_eq_true rfl) (Nat.le_of_ble_eq_true rfl) dX7_forget_39
    · have hv : kDp r x z = 0 := by unfold kDp; rw [enp]; exact cd1_0 ⟨c9, c17⟩
      obtain ⟨d, hd4, rfl⟩ := c9
      obtain ⟨n, hn4, rfl⟩ := c17
      have ed := nD_nI (show d < 2 ^ 31 by omega)
      have en := nD_nI (show n < 2 ^ 31 by omega)
      refine lv_aload_n F.1.1 F.1.2.1 dX7_forget_20 rfl (lv_at hl 0 rfl) ?_
      refine lv_aload_n F.1.1 F.1.2.1 dX7_forget_21 rfl (lv_at hl 0 rfl) ?_
      refine lv_iload_n F.1.1 F.1.2.1 dX7_forget_22 rfl (lv_at hl 1 rfl) ?_
      refine lv_iload_n F.1.1 F.1.2.1 dX7_forget_23 rfl (lv_at hl 2 rfl) ?_
      refine mc_Va (As := [_, _]) F hM (ct_learnedAt l hd ) (cwV 2 F.1.2.2.2.2 (lw_V q1840 q1842 qs42 q88 q1843) rfl rfl rfl (by decide +kernel) (mRm_ok (by decide) (by decide))) (tM_0 hd) rfl rfl rfl rfl hl.1 rfl (Nat.le_of_ble_eq_true rfl) dX7_forget_24 ⟨Nat.le_of_ble_eq_true rfl, Nat.le_of_ble_eq_true rfl⟩ (fun H locs hM => ?_)
      refine mr_iconst F 0 dX7_forget_27 (by decide +kernel) ?_
      refine mc_Va (As := [_, _]) F hM (ct_sets l hd (by assumption) (by omega) (by omega)) (cwV 2 F.1.2.2.2.2 (lw_V q1796 q1798 qs35 q88 q1799) rfl rfl rfl (by decide +kernel) (mRm_ok (by decide) (by decide))) (tM_0 hd) rfl rfl rfl rfl hl.1 rfl (Nat.le_of_ble_eq_true rfl) dX7_forget_28 ⟨Nat.le_of_ble_eq_true rfl, Nat.le_of_ble_eq_true rfl⟩ (fun H locs hM => ?_)
      refine lv_goto (tgt := 39) F.1.1 F.1.2.1 dX7_forget_31 (by decide) ?_
      exact mr_iret F hQ hM (by first | exact Or.inl ⟨by rw [hv]; decide, rfl, by rw [hv, bx_uu]⟩ | exact Or.inr ⟨hv, by simp only [ed, en], by simp only [ed, en]⟩) (Nat.le_of_ble_eq_true rfl) (Nat.le_of_ble_eq_true rfl) dX7_forget_39
set_option maxHeartbeats 4000000 in
theorem ct_write (l : Launch) {G : mG} {ad : Nat → Nat} {g r : Nat → Int32} {f : Nat → UInt32} {h : tH} {b : Nat → Int32} {M0 : mM} {m0 : Nat} {x z u : Int32} (hd : tAd ad) (hI : mInv r f) (hg : g 4 = nI m0) (hm : m0 ≤ 5) : mMet l yX7_write (ws_ yX7_write cX7_write 5 (some .int)) (mRm 4 0 0) [.ref (ad 0), .int x, .int z, .int u] G (pPre (tM G ad g r f h b M0)) (qPost (kWrite r x z u) (.int (nI 0)) (.int (mPl r (nD x) (nD z) (nD (r (60 + nD x))) (nD (r (52 + nD x))))) (tM G ad (va_up g 10 (nI (kWrite r x z u))) r f h b M0) (tM G ad (va_up (va_up g 10 (nI 0)) 4 (nI (mK m0 + 1))) (nRubR (nWrR r (nD x) (nD z) (nD (r (60 + nD x))) (nD (r (52 + nD x))) u) (nD x) (nD z) (nD (r (60 + nD x)))) (nRubF (nWrR r (nD x) (nD z) (nD (r (60 + nD x))) (nD (r (52 + nD x))) u) (nWrF r f (nD x) (nD z) (nD (r (60 + nD x))) (nD (r (52 + nD x)))) (nD x) (nD z) (nD (r (60 + nD x))) (nD (r (52 + nD x)))) (mRc m0 h r f) b M0)) := by
  refine mMet.of (by decide +kernel) (Nat.le_of_ble_eq_true rfl) fun p e s m args below meth c A Q M hM0 F hnm hQ hM ls hl => ?_
  have hM0 : M = tM G ad g r f h b M0 := hM0
  subst hM0
  have hl : lv_has ls 5 [(0, .ref (ad 0)), (1, .int x), (2, .int z), (3, .int u)] := hl
  obtain ⟨np, hnp, hnp6, hpk, hun⟩ := hI.1
  have enp : nD (r 89) = np := by rw [hnp]; exact nD_nI (by omega)
  refine lv_aload_n F.1.1 F.1.2.1 dX7_write_0 rfl (lv_at hl 0 rfl) ?_
  refine mr_iconst F 0 dX7_write_1 (by decide +kernel) ?_
  refine tr_put F hd hM 10 (by decide) q1730 rfl rfl rfl (tw_s10 _ _ _) dX7_write_2 (fun H locs hM => ?_)
  refine lv_aload_n F.1.1 F.1.2.1 dX7_write_5 rfl (lv_at hl 0 rfl) ?_
  refine lv_iload_n F.1.1 F.1.2.1 dX7_write_6 rfl (lv_at hl 1 rfl) ?_
  refine lv_iload_n F.1.1 F.1.2.1 dX7_write_7 rfl (lv_at hl 2 rfl) ?_
  refine lv_iload_n F.1.1 F.1.2.1 dX7_write_8 rfl (lv_at hl 3 rfl) ?_
  refine mc_Va (As := [_, _, _]) F hM (ct_writeRefusal l hd ) (cwV 3 F.1.2.2.2.2 (lw_V q1883 q1885 qs47 q88 q1886) rfl rfl rfl (by decide +kernel) (mRm_ok (by decide) (by decide))) (tM_0 hd) rfl rfl rfl rfl hl.1 rfl (Nat.le_of_ble_eq_true rfl) dX7_write_9 ⟨Nat.le_of_ble_eq_true rfl, Nat.le_of_ble_eq_true rfl⟩ (fun H locs hM => ?_)
  refine lv_istore (lv' := [(4, _), (0, _), (1, _), (2, _), (3, _)]) F.1.1 F.1.2.1 dX7_write_12 hl (by decide) rfl (fun ls hl => ?_)
  refine lv_iload F.1.1 F.1.2.1 dX7_write_14 (lv_at hl 0 rfl) ?_
  have hkb : kWrite r x z u < 2 ^ 31 := Nat.lt_of_le_of_lt (cd3_le _ _ _) (by decide)
  refine mr_ifleN F (tgt := 26) dX7_write_16 (by decide) (by omega) (fun c16 => ?_) (fun c16 => ?_)
  · obtain ⟨⟨⟨d, hd4, rfl⟩, ⟨n, hn4, rfl⟩⟩, hval, hpn⟩ := cd3_z c16
    have ed := nD_nI (show d < 2 ^ 31 by omega)
    have en := nD_nI (show n < 2 ^ 31 by omega)
    rw [ed] at hpn
    obtain ⟨p0, hp0, hp⟩ := (hpk d hd4).resolve_left hpn
    have ep : nD (r (60 + d)) = p0 := by rw [hp]; exact nD_nI (by omega)
    obtain ⟨c0, hc4, hc⟩ := hI.2.2.2.2.2.1 d hd4
    have ec : nD (r (52 + d)) = c0 := by rw [hc]; exact nD_nI (by omega)
    refine lv_aload_n F.1.1 F.1.2.1 dX7_write_26 rfl (lv_at hl 1 rfl) ?_
    refine mc_Vv (As := []) F hM (ct_records l hd (by assumption) (by omega)) (cwV 0 F.1.2.2.2.2 (lw_V q1800 q1802 qs36 q88 q1803) rfl rfl rfl (by decide +kernel) (mRm_ok (by decide) (by decide))) (tM_0 hd) rfl rfl rfl rfl hl.1 rfl (Nat.le_of_ble_eq_true rfl) dX7_write_27 ⟨Nat.le_of_ble_eq_true rfl, Nat.le_of_ble_eq_true rfl⟩ (fun H locs hM => ?_)
    refine lv_aload_n F.1.1 F.1.2.1 dX7_write_30 rfl (lv_at hl 1 rfl) ?_
    refine lv_iload_n F.1.1 F.1.2.1 dX7_write_31 rfl (lv_at hl 2 rfl) ?_
    refine lv_iload_n F.1.1 F.1.2.1 dX7_write_32 rfl (lv_at hl 3 rfl) ?_
    refine lv_iload_n F.1.1 F.1.2.1 dX7_write_33 rfl (lv_at hl 4 rfl) ?_
    refine mc_Va (As := [_, _, _]) F hM (ct_writes l hd (by assumption) (by assumption) (by omega) (by omega) (by omega) (by omega)) (cwV 3 F.1.2.2.2.2 (lw_V q1890 q1892 qs48 q88 q1893) rfl rfl rfl (by decide +kernel) (mRm_ok (by decide) (by decide))) (tM_0 hd) rfl rfl rfl rfl hl.1 rfl (Nat.le_of_ble_eq_true rfl) dX7_write_34 ⟨Nat.le_of_ble_eq_true rfl, Nat.le_of_ble_eq_true rfl⟩ (fun H locs hM => ?_)
    exact mr_iret F hQ hM (by first | exact Or.inl ⟨c16, rfl, by rw [bx_uu]⟩ | exact Or.inr ⟨c16, by simp only [ed, en, ep, ec], by simp only [ed, en, ep, ec]⟩) (Nat.le_of_ble_eq_true rfl) (Nat.le_of_ble_eq_true rfl) dX7_write_37
  · refine lv_aload_n F.1.1 F.1.2.1 dX7_write_19 rfl (lv_at hl 1 rfl) ?_
    refine lv_iload F.1.1 F.1.2.1 dX7_write_20 (lv_at hl 0 rfl) ?_
    refine mc_Va (As := [_]) F hM (ct_fails l hd ) (cwV 1 F.1.2.2.2.2 (lw_V q1789 q1791 qs34 q88 q1792) rfl rfl rfl (by decide +kernel) (mRm_ok (by decide) (by decide))) (tM_0 hd) rfl rfl rfl rfl hl.1 rfl (Nat.le_of_ble_eq_true rfl) dX7_write_22 ⟨Nat.le_of_ble_eq_true rfl, Nat.le_of_ble_eq_true rfl⟩ (fun H locs hM => ?_)
    exact mr_iret F hQ hM (by first | exact Or.inl ⟨c16, rfl, by rw [bx_uu]⟩ | exact Or.inr ⟨c16, by simp only [ed, en, ep, ec], by simp only [ed, en, ep, ec]⟩) (Nat.le_of_ble_eq_true rfl) (Nat.le_of_ble_eq_true rfl) dX7_write_25
set_option maxHeartbeats 4000000 in
theorem ct_read (l : Launch) {G : mG} {ad : Nat → Nat} {g r : Nat → Int32} {f : Nat → UInt32} {h : tH} {b : Nat → Int32} {M0 : mM} {m0 : Nat} {x z : Int32} (hd : tAd ad) (hI : mInv r f) (hg : g 4 = nI m0) (hm : m0 ≤ 5) : mMet l yX7_read (ws_ yX7_read cX7_read 4 (some .int)) (mRm 6 0 0) [.ref (ad 0), .int x, .int z] G (pPre (tM G ad g r f h b M0)) (qPost (kRead r x z) (.int (nI 0)) (.int (nRdV r (nD z) (nD (r (60 + nD x))) (nD (r (52 + nD x))) (mRt r f (nD x) (nD z) (nD (r (60 + nD x))) (nD (r (52 + nD x))) (nD (r 88))))) (tM G ad (va_up g 10 (nI (kRead r x z))) r f h b M0) (tM G ad (va_up (va_up g 10 (nI 0)) 4 (nI (mK m0 + 1))) (nRubR (nRdR r (nD x) (nD (r (60 + nD x))) (nD (r 88)) (mRt r f (nD x) (nD z) (nD (r (60 + nD x))) (nD (r (52 + nD x))) (nD (r 88)))) (nD x) (nD z) (nD (r (60 + nD x)))) (nRubF (nRdR r (nD x) (nD (r (60 + nD x))) (nD (r 88)) (mRt r f (nD x) (nD z) (nD (r (60 + nD x))) (nD (r (52 + nD x))) (nD (r 88)))) f (nD x) (nD z) (nD (r (60 + nD x))) (nD (r (52 + nD x)))) (mRc m0 h r f) b M0)) := by
  refine mMet.of (by decide +kernel) (Nat.le_of_ble_eq_true rfl) fun p e s m args below meth c A Q M hM0 F hnm hQ hM ls hl => ?_
  have hM0 : M = tM G ad g r f h b M0 := hM0
  subst hM0
  have hl : lv_has ls 4 [(0, .ref (ad 0)), (1, .int x), (2, .int z)] := hl
  obtain ⟨np, hnp, hnp6, hpk, hun⟩ := hI.1
  have enp : nD (r 89) = np := by rw [hnp]; exact nD_nI (by omega)
  refine lv_aload_n F.1.1 F.1.2.1 dX7_read_0 rfl (lv_at hl 0 rfl) ?_
  refine mr_iconst F 0 dX7_read_1 (by decide +kernel) ?_
  refine tr_put F hd hM 10 (by decide) q1730 rfl rfl rfl (tw_s10 _ _ _) dX7_read_2 (fun H locs hM => ?_)
  refine lv_aload_n F.1.1 F.1.2.1 dX7_read_5 rfl (lv_at hl 0 rfl) ?_
  refine lv_iload_n F.1.1 F.1.2.1 dX7_read_6 rfl (lv_at hl 1 rfl) ?_
  refine lv_iload_n F.1.1 F.1.2.1 dX7_read_7 rfl (lv_at hl 2 rfl) ?_
  refine mc_Va (As := [_, _]) F hM (ct_readRefusal l hd ) (cwV 2 F.1.2.2.2.2 (lw_V q1911 q1913 qs51 q88 q1914) rfl rfl rfl (by decide +kernel) (mRm_ok (by decide) (by decide))) (tM_0 hd) rfl rfl rfl rfl hl.1 rfl (Nat.le_of_ble_eq_true rfl) dX7_read_8 ⟨Nat.le_of_ble_eq_true rfl, Nat.le_of_ble_eq_true rfl⟩ (fun H locs hM => ?_)
  refine lv_istore_n (lv' := [(3, _), (0, _), (1, _), (2, _)]) F.1.1 F.1.2.1 dX7_read_11 rfl hl (by decide) rfl (fun ls hl => ?_)
  refine lv_iload_n F.1.1 F.1.2.1 dX7_read_12 rfl (lv_at hl 0 rfl) ?_
  have hkb : kRead r x z < 2 ^ 31 := Nat.lt_of_le_of_lt (cd2_le _ _) (by decide)
  refine mr_ifleN F (tgt := 22) dX7_read_13 (by decide) (by omega) (fun c13 => ?_) (fun c13 => ?_)
  · obtain ⟨⟨⟨d, hd4, rfl⟩, ⟨n, hn4, rfl⟩⟩, hpn⟩ := cd2_z c13
    have ed := nD_nI (show d < 2 ^ 31 by omega)
    have en := nD_nI (show n < 2 ^ 31 by omega)
    rw [ed] at hpn
    obtain ⟨p0, hp0, hp⟩ := (hpk d hd4).resolve_left hpn
    have ep : nD (r (60 + d)) = p0 := by rw [hp]; exact nD_nI (by omega)
    obtain ⟨c0, hc4, hc⟩ := hI.2.2.2.2.2.1 d hd4
    have ec : nD (r (52 + d)) = c0 := by rw [hc]; exact nD_nI (by omega)
    obtain ⟨t, ht, ht8⟩ := hI.2.1
    have et : nD (r 88) = t := by rw [ht]; exact nD_nI (by omega)
    refine lv_aload_n F.1.1 F.1.2.1 dX7_read_22 rfl (lv_at hl 1 rfl) ?_
    refine mc_Vv (As := []) F hM (ct_records l hd (by assumption) (by omega)) (cwV 0 F.1.2.2.2.2 (lw_V q1800 q1802 qs36 q88 q1803) rfl rfl rfl (by decide +kernel) (mRm_ok (by decide) (by decide))) (tM_0 hd) rfl rfl rfl rfl hl.1 rfl (Nat.le_of_ble_eq_true rfl) dX7_read_23 ⟨Nat.le_of_ble_eq_true rfl, Nat.le_of_ble_eq_true rfl⟩ (fun H locs hM => ?_)
    refine lv_aload_n F.1.1 F.1.2.1 dX7_read_26 rfl (lv_at hl 1 rfl) ?_
    refine lv_iload_n F.1.1 F.1.2.1 dX7_read_27 rfl (lv_at hl 2 rfl) ?_
    refine lv_iload_n F.1.1 F.1.2.1 dX7_read_28 rfl (lv_at hl 3 rfl) ?_
    refine mc_Va (As := [_, _]) F hM (ct_readsNow l hd (by assumption) (by assumption) (by assumption) (by assumption) (by omega) (by omega) (by omega) (by omega) (by omega)) (cwV 2 F.1.2.2.2.2 (lw_V q1915 q1917 qs52 q88 q1918) rfl rfl rfl (by decide +kernel) (mRm_ok (by decide) (by decide))) (tM_0 hd) rfl rfl rfl rfl hl.1 rfl (Nat.le_of_ble_eq_true rfl) dX7_read_29 ⟨Nat.le_of_ble_eq_true rfl, Nat.le_of_ble_eq_true rfl⟩ (fun H locs hM => ?_)
    exact mr_iret F hQ hM (by first | exact Or.inl ⟨c13, rfl, by rw [bx_uu]⟩ | exact Or.inr ⟨c13, by simp only [ed, en, ep, ec, et], by simp only [ed, en, ep, ec, et]⟩) (Nat.le_of_ble_eq_true rfl) (Nat.le_of_ble_eq_true rfl) dX7_read_32
  · refine lv_aload_n F.1.1 F.1.2.1 dX7_read_16 rfl (lv_at hl 1 rfl) ?_
    refine lv_iload_n F.1.1 F.1.2.1 dX7_read_17 rfl (lv_at hl 0 rfl) ?_
    refine mc_Va (As := [_]) F hM (ct_fails l hd ) (cwV 1 F.1.2.2.2.2 (lw_V q1789 q1791 qs34 q88 q1792) rfl rfl rfl (by decide +kernel) (mRm_ok (by decide) (by decide))) (tM_0 hd) rfl rfl rfl rfl hl.1 rfl (Nat.le_of_ble_eq_true rfl) dX7_read_18 ⟨Nat.le_of_ble_eq_true rfl, Nat.le_of_ble_eq_true rfl⟩ (fun H locs hM => ?_)
    exact mr_iret F hQ hM (by first | exact Or.inl ⟨c13, rfl, by rw [bx_uu]⟩ | exact Or.inr ⟨c13, by simp only [ed, en, ep, ec, et], by simp only [ed, en, ep, ec, et]⟩) (Nat.le_of_ble_eq_true rfl) (Nat.le_of_ble_eq_true rfl) dX7_read_21
set_option maxHeartbeats 4000000 in
theorem ct_strike (l : Launch) {G : mG} {ad : Nat → Nat} {g r : Nat → Int32} {f : Nat → UInt32} {h : tH} {b : Nat → Int32} {M0 : mM} {m0 : Nat} {x z : Int32} (hd : tAd ad) (hI : mInv r f) (hg : g 4 = nI m0) (hm : m0 ≤ 5) : mMet l yX7_strike (ws_ yX7_strike cX7_strike 4 (some .boolean)) (mRm 3 0 0) [.ref (ad 0), .int x, .int z] G (pPre (tM G ad g r f h b M0)) (qPost (kHead x z) (.int (nI 0)) (.int (bI (r (16 + (4 * nD x + nD z)) = nI 0))) (tM G ad (va_up g 10 (nI (kHead x z))) r f h b M0) (tM G ad (va_up (va_up g 10 (nI 0)) 4 (nI (mK m0 + 1))) (nStr r (nD x) (nD z)) (f) (mRc m0 h r f) b M0)) := by
  refine mMet.of (by decide +kernel) (Nat.le_of_ble_eq_true rfl) fun p e s m args below meth c A Q M hM0 F hnm hQ hM ls hl => ?_
  have hM0 : M = tM G ad g r f h b M0 := hM0
  subst hM0
  have hl : lv_has ls 4 [(0, .ref (ad 0)), (1, .int x), (2, .int z)] := hl
  obtain ⟨np, hnp, hnp6, hpk, hun⟩ := hI.1
  have enp : nD (r 89) = np := by rw [hnp]; exact nD_nI (by omega)
  refine lv_aload_n F.1.1 F.1.2.1 dX7_strike_0 rfl (lv_at hl 0 rfl) ?_
  refine mr_iconst F 0 dX7_strike_1 (by decide +kernel) ?_
  refine tr_put F hd hM 10 (by decide) q1730 rfl rfl rfl (tw_s10 _ _ _) dX7_strike_2 (fun H locs hM => ?_)
  refine lv_iload_n F.1.1 F.1.2.1 dX7_strike_5 rfl (lv_at hl 1 rfl) ?_
  refine mc_Sa (As := [_]) F hM (ct_isDrive l ) (va_cwS 1 F.1.2.2.2.2 (lw_S q1780 q1781 q88 q1782) rfl rfl rfl (by decide +kernel) (mRm_ok (by decide) (by decide))) rfl rfl hl.1 rfl (Nat.le_of_ble_eq_true rfl) dX7_strike_6 ⟨Nat.le_of_ble_eq_true rfl, Nat.le_of_ble_eq_true rfl⟩ (fun H locs hM => ?_)
  refine mr_ifeqB F (tgt := 19) dX7_strike_9 (by decide) (fun c9 => ?_) (fun c9 => ?_)
  · have hv : kHead x z = 1 := by unfold kHead; exact cd1_1 (fun q => c9 q.1)
    refine lv_aload_n F.1.1 F.1.2.1 dX7_strike_19 rfl (lv_at hl 0 rfl) ?_
    refine mr_iconst F 1 dX7_strike_20 (by decide +kernel) ?_
    refine mc_Va (As := [_]) F hM (ct_failsSo l hd ) (cwV 1 F.1.2.2.2.2 (lw_V q1816 q1818 qs38 q88 q1819) rfl rfl rfl (by decide +kernel) (mRm_ok (by decide) (by decide))) (tM_0 hd) rfl rfl rfl rfl hl.1 rfl (Nat.le_of_ble_eq_true rfl) dX7_strike_21 ⟨Nat.le_of_ble_eq_true rfl, Nat.le_of_ble_eq_true rfl⟩ (fun H locs hM => ?_)
    exact mr_zret F hQ (by first | rfl | exact nZ_bI _) hM (by first | exact Or.inl ⟨by rw [hv]; decide, rfl, by rw [hv, bx_uu]⟩ | exact Or.inr ⟨hv, by simp only [ed, en, hb], by simp only [ed, en, hs]⟩) (Nat.le_of_ble_eq_true rfl) (Nat.le_of_ble_eq_true rfl) dX7_strike_24
  · refine lv_iload_n F.1.1 F.1.2.1 dX7_strike_12 rfl (lv_at hl 2 rfl) ?_
    refine mc_Sa (As := [_]) F hM (ct_isHead l ) (va_cwS 1 F.1.2.2.2.2 (lw_S q1786 q1787 q88 q1788) rfl rfl rfl (by decide +kernel) (mRm_ok (by decide) (by decide))) rfl rfl hl.1 rfl (Nat.le_of_ble_eq_true rfl) dX7_strike_13 ⟨Nat.le_of_ble_eq_true rfl, Nat.le_of_ble_eq_true rfl⟩ (fun H locs hM => ?_)
    refine mr_ifneB F (tgt := 25) dX7_strike_16 (by decide) (fun c16 => ?_) (fun c16 => ?_)
    · have hv : kHead x z = 0 := by unfold kHead; exact cd1_0 ⟨c9, c16⟩
      obtain ⟨d, hd4, rfl⟩ := c9
      obtain ⟨n, hn4, rfl⟩ := c16
      have ed := nD_nI (show d < 2 ^ 31 by omega)
      have en := nD_nI (show n < 2 ^ 31 by omega)
      refine lv_aload_n F.1.1 F.1.2.1 dX7_strike_25 rfl (lv_at hl 0 rfl) ?_
      refine mr_bipush F 16 dX7_strike_26 (by decide +kernel) ?_
      refine lv_iload_n F.1.1 F.1.2.1 dX7_strike_28 rfl (lv_at hl 1 rfl) ?_
      refine lv_iload_n F.1.1 F.1.2.1 dX7_strike_29 rfl (lv_at hl 2 rfl) ?_
      refine mc_Sa (As := [_, _]) F hM (ct_head l ) (va_cwS 2 F.1.2.2.2.2 (lw_S q1793 q1794 q88 q1795) rfl rfl rfl (by decide +kernel) (mRm_ok (by decide) (by decide))) rfl rfl hl.1 rfl (Nat.le_of_ble_eq_true rfl) dX7_strike_30 ⟨Nat.le_of_ble_eq_true rfl, Nat.le_of_ble_eq_true rfl⟩ (fun H locs hM => ?_)
      refine mr_iaddN F dX7_strike_33 ?_
      refine mr_iconst F 1 dX7_strike_34 (by decide +kernel) ?_
      refine mc_Va (As := [_, _]) F hM (ct_sets l hd (by assumption) (by omega) (by omega)) (cwV 2 F.1.2.2.2.2 (lw_V q1796 q1798 qs35 q88 q1799) rfl rfl rfl (by decide +kernel) (mRm_ok (by decide) (by decide))) (tM_0 hd) rfl rfl rfl rfl hl.1 rfl (Nat.le_of_ble_eq_true rfl) dX7_strike_35 ⟨Nat.le_of_ble_eq_true rfl, Nat.le_of_ble_eq_true rfl⟩ (fun H locs hM => ?_)
      refine lv_istore_n (lv' := [(3, _), (0, _), (1, _), (2, _)]) F.1.1 F.1.2.1 dX7_strike_38 rfl hl (by decide) rfl (fun ls hl => ?_)
      refine lv_aload_n F.1.1 F.1.2.1 dX7_strike_39 rfl (lv_at hl 1 rfl) ?_
      refine tr_get F hd hM 0 (by decide) q1720 rfl dX7_strike_40 ?_
      refine mr_bipush F 32 dX7_strike_43 (by decide +kernel) ?_
      refine lv_iload_n F.1.1 F.1.2.1 dX7_strike_45 rfl (lv_at hl 2 rfl) ?_
      refine lv_iload_n F.1.1 F.1.2.1 dX7_strike_46 rfl (lv_at hl 3 rfl) ?_
      refine mc_Sa (As := [_, _]) F hM (ct_head l ) (va_cwS 2 F.1.2.2.2.2 (lw_S q1793 q1794 q88 q1795) rfl rfl rfl (by decide +kernel) (mRm_ok (by decide) (by decide))) rfl rfl hl.1 rfl (Nat.le_of_ble_eq_true rfl) dX7_strike_47 ⟨Nat.le_of_ble_eq_true rfl, Nat.le_of_ble_eq_true rfl⟩ (fun H locs hM => ?_)
      refine mr_iaddN F dX7_strike_50 ?_
      refine mr_iconst F 0 dX7_strike_51 (by decide +kernel) ?_
      refine tr_st1 F hd hM (by omega) dX7_strike_52 (fun H locs hM => ?_)
      refine lv_aload_n F.1.1 F.1.2.1 dX7_strike_53 rfl (lv_at hl 1 rfl) ?_
      refine tr_get F hd hM 0 (by decide) q1720 rfl dX7_strike_54 ?_
      refine mr_bipush F 56 dX7_strike_57 (by decide +kernel) ?_
      refine lv_iload_n F.1.1 F.1.2.1 dX7_strike_59 rfl (lv_at hl 2 rfl) ?_
      refine mr_iaddN F dX7_strike_60 ?_
      refine lv_iload_n F.1.1 F.1.2.1 dX7_strike_61 rfl (lv_at hl 3 rfl) ?_
      refine mr_iconst F 3 dX7_strike_62 (by decide +kernel) ?_
      refine mr_icmp_neN F (tgt := 70) dX7_strike_63 (by decide) (by omega) (by omega) (fun c63 => ?_) (fun c63 => ?_)
      · have hs : nStr r d n = va_up (va_up (va_up r (16 + (4 * d + n)) (nI 1)) (32 + (4 * d + n)) (nI 0)) (56 + d) (r (56 + d)) := by unfold nStr; exact if_neg c63
        refine lv_aload_n F.1.1 F.1.2.1 dX7_strike_70 rfl (lv_at hl 1 rfl) ?_
        refine tr_get F hd hM 0 (by decide) q1720 rfl dX7_strike_71 ?_
        refine mr_bipush F 56 dX7_strike_74 (by decide +kernel) ?_
        refine lv_iload_n F.1.1 F.1.2.1 dX7_strike_76 rfl (lv_at hl 2 rfl) ?_
        refine mr_iaddN F dX7_strike_77 ?_
        refine tr_ld1 F hd hM (by omega) ((va_up_ne _ _ (by omega)).trans (va_up_ne _ _ (by omega))) dX7_strike_78 ?_
        refine tr_st1 F hd hM (by omega) dX7_strike_79 (fun H locs hM => ?_)
        refine lv_iload_n F.1.1 F.1.2.1 dX7_strike_80 rfl (lv_at hl 0 rfl) ?_
        refine lv_if_ne (tgt := 88) F.1.1 F.1.2.1 dX7_strike_81 (by decide) (fun c81 => ?_) (fun c81 => ?_)
        · have hb : bI (r (16 + (4 * d + n)) = nI 0) = nI 0 := bI_f c81
          refine mr_iconst F 0 dX7_strike_88 (by decide +kernel) ?_
          exact mr_zret F hQ (by first | rfl | exact nZ_bI _) hM (by first | exact Or.inl ⟨by rw [hv]; decide, rfl, by rw [hv, bx_uu]⟩ | exact Or.inr ⟨hv, by simp only [ed, en, hb], by simp only [ed, en, hs]⟩) (Nat.le_of_ble_eq_true rfl) (Nat.le_of_ble_eq_true rfl) dX7_strike_89
        · have hb : bI (r (16 + (4 * d + n)) = nI 0) = nI 1 := bI_t c81
          refine mr_iconst F 1 dX7_strike_84 (by decide +kernel) ?_
          refine lv_goto (tgt := 89) F.1.1 F.1.2.1 dX7_strike_85 (by decide) ?_
          exact mr_zret F hQ (by first | rfl | exact nZ_bI _) hM (by first | exact Or.inl ⟨by rw [hv]; decide, rfl, by rw [hv, bx_uu]⟩ | exact Or.inr ⟨hv, by simp only [ed, en, hb], by simp only [ed, en, hs]⟩) (Nat.le_of_ble_eq_true rfl) (Nat.le_of_ble_eq_true rfl) dX7_strike_89
      · have hs : nStr r d n = va_up (va_up (va_up r (16 + (4 * d + n)) (nI 1)) (32 + (4 * d + n)) (nI 0)) (56 + d) (nI 0) := by unfold nStr; exact if_pos c63
        refine mr_iconst F 0 dX7_strike_66 (by decide +kernel) ?_
        refine lv_goto (tgt := 79) F.1.1 F.1.2.1 dX7_strike_67 (by decide) ?_
        refine tr_st1 F hd hM (by omega) dX7_strike_79 (fun H locs hM => ?_)
        refine lv_iload_n F.1.1 F.1.2.1 dX7_strike_80 rfl (lv_at hl 0 rfl) ?_
        refine lv_if_ne (tgt := 88) F.1.1 F.1.2.1 dX7_strike_81 (by decide) (fun c81 => ?_) (fun c81 => ?_)
        · have hb : bI (r (16 + (4 * d + n)) = nI 0) = nI 0 := bI_f c81
          refine mr_iconst F 0 dX7_strike_88 (by decide +kernel) ?_
          exact mr_zret F hQ (by first | rfl | exact nZ_bI _) hM (by first | exact Or.inl ⟨by rw [hv]; decide, rfl, by rw [hv, bx_uu]⟩ | exact Or.inr ⟨hv, by simp only [ed, en, hb], by simp only [ed, en, hs]⟩) (Nat.le_of_ble_eq_true rfl) (Nat.le_of_ble_eq_true rfl) dX7_strike_89
        · have hb : bI (r (16 + (4 * d + n)) = nI 0) = nI 1 := bI_t c81
          refine mr_iconst F 1 dX7_strike_84 (by decide +kernel) ?_
          refine lv_goto (tgt := 89) F.1.1 F.1.2.1 dX7_strike_85 (by decide) ?_
          exact mr_zret F hQ (by first | rfl | exact nZ_bI _) hM (by first | exact Or.inl ⟨by rw [hv]; decide, rfl, by rw [hv, bx_uu]⟩ | exact Or.inr ⟨hv, by simp only [ed, en, hb], by simp only [ed, en, hs]⟩) (Nat.le_of_ble_eq_true rfl) (Nat.le_of_ble_eq_true rfl) dX7_strike_89
    · have hv : kHead x z = 1 := by unfold kHead; exact cd1_1 (fun q => c16 q.2)
      refine lv_aload_n F.1.1 F.1.2.1 dX7_strike_19 rfl (lv_at hl 0 rfl) ?_
      refine mr_iconst F 1 dX7_strike_20 (by decide +kernel) ?_
      refine mc_Va (As := [_]) F hM (ct_failsSo l hd ) (cwV 1 F.1.2.2.2.2 (lw_V q1816 q1818 qs38 q88 q1819) rfl rfl rfl (by decide +kernel) (mRm_ok (by decide) (by decide))) (tM_0 hd) rfl rfl rfl rfl hl.1 rfl (Nat.le_of_ble_eq_true rfl) dX7_strike_21 ⟨Nat.le_of_ble_eq_true rfl, Nat.le_of_ble_eq_true rfl⟩ (fun H locs hM => ?_)
      exact mr_zret F hQ (by first | rfl | exact nZ_bI _) hM (by first | exact Or.inl ⟨by rw [hv]; decide, rfl, by rw [hv, bx_uu]⟩ | exact Or.inr ⟨hv, by simp only [ed, en, hb], by simp only [ed, en, hs]⟩) (Nat.le_of_ble_eq_true rfl) (Nat.le_of_ble_eq_true rfl) dX7_strike_24
set_option maxHeartbeats 4000000 in
theorem ct_mend (l : Launch) {G : mG} {ad : Nat → Nat} {g r : Nat → Int32} {f : Nat → UInt32} {h : tH} {b : Nat → Int32} {M0 : mM} {m0 : Nat} {x z : Int32} (hd : tAd ad) (hI : mInv r f) (hg : g 4 = nI m0) (hm : m0 ≤ 5) : mMet l yX7_mend (ws_ yX7_mend cX7_mend 3 (some .int)) (mRm 3 0 0) [.ref (ad 0), .int x, .int z] G (pPre (tM G ad g r f h b M0)) (qPost (kHead x z) (.int (nI 0)) (.int (r (0 + (4 * nD x + nD z)))) (tM G ad (va_up g 10 (nI (kHead x z))) r f h b M0) (tM G ad (va_up (va_up g 10 (nI 0)) 4 (nI (mK m0 + 1))) (nMend r (nD x) (nD z)) (f) (mRc m0 h r f) b M0)) := by
  refine mMet.of (by decide +kernel) (Nat.le_of_ble_eq_true rfl) fun p e s m args below meth c A Q M hM0 F hnm hQ hM ls hl => ?_
  have hM0 : M = tM G ad g r f h b M0 := hM0
  subst hM0
  have hl : lv_has ls 3 [(0, .ref (ad 0)), (1, .int x), (2, .int z)] := hl
  obtain ⟨np, hnp, hnp6, hpk, hun⟩ := hI.1
  have enp : nD (r 89) = np := by rw [hnp]; exact nD_nI (by omega)
  refine lv_aload_n F.1.1 F.1.2.1 dX7_mend_0 rfl (lv_at hl 0 rfl) ?_
  refine mr_iconst F 0 dX7_mend_1 (by decide +kernel) ?_
  refine tr_put F hd hM 10 (by decide) q1730 rfl rfl rfl (tw_s10 _ _ _) dX7_mend_2 (fun H locs hM => ?_)
  refine lv_iload_n F.1.1 F.1.2.1 dX7_mend_5 rfl (lv_at hl 1 rfl) ?_
  refine mc_Sa (As := [_]) F hM (ct_isDrive l ) (va_cwS 1 F.1.2.2.2.2 (lw_S q1780 q1781 q88 q1782) rfl rfl rfl (by decide +kernel) (mRm_ok (by decide) (by decide))) rfl rfl hl.1 rfl (Nat.le_of_ble_eq_true rfl) dX7_mend_6 ⟨Nat.le_of_ble_eq_true rfl, Nat.le_of_ble_eq_true rfl⟩ (fun H locs hM => ?_)
  refine mr_ifeqB F (tgt := 19) dX7_mend_9 (by decide) (fun c9 => ?_) (fun c9 => ?_)
  · have hv : kHead x z = 1 := by unfold kHead; exact cd1_1 (fun q => c9 q.1)
    refine lv_aload_n F.1.1 F.1.2.1 dX7_mend_19 rfl (lv_at hl 0 rfl) ?_
    refine mr_iconst F 1 dX7_mend_20 (by decide +kernel) ?_
    refine mc_Va (As := [_]) F hM (ct_fails l hd ) (cwV 1 F.1.2.2.2.2 (lw_V q1789 q1791 qs34 q88 q1792) rfl rfl rfl (by decide +kernel) (mRm_ok (by decide) (by decide))) (tM_0 hd) rfl rfl rfl rfl hl.1 rfl (Nat.le_of_ble_eq_true rfl) dX7_mend_21 ⟨Nat.le_of_ble_eq_true rfl, Nat.le_of_ble_eq_true rfl⟩ (fun H locs hM => ?_)
    exact mr_iret F hQ hM (by first | exact Or.inl ⟨by rw [hv]; decide, rfl, by rw [hv, bx_uu]⟩ | exact Or.inr ⟨hv, by simp only [ed, en], by simp only [ed, en]⟩) (Nat.le_of_ble_eq_true rfl) (Nat.le_of_ble_eq_true rfl) dX7_mend_24
  · refine lv_iload_n F.1.1 F.1.2.1 dX7_mend_12 rfl (lv_at hl 2 rfl) ?_
    refine mc_Sa (As := [_]) F hM (ct_isHead l ) (va_cwS 1 F.1.2.2.2.2 (lw_S q1786 q1787 q88 q1788) rfl rfl rfl (by decide +kernel) (mRm_ok (by decide) (by decide))) rfl rfl hl.1 rfl (Nat.le_of_ble_eq_true rfl) dX7_mend_13 ⟨Nat.le_of_ble_eq_true rfl, Nat.le_of_ble_eq_true rfl⟩ (fun H locs hM => ?_)
    refine mr_ifneB F (tgt := 25) dX7_mend_16 (by decide) (fun c16 => ?_) (fun c16 => ?_)
    · have hv : kHead x z = 0 := by unfold kHead; exact cd1_0 ⟨c9, c16⟩
      obtain ⟨d, hd4, rfl⟩ := c9
      obtain ⟨n, hn4, rfl⟩ := c16
      have ed := nD_nI (show d < 2 ^ 31 by omega)
      have en := nD_nI (show n < 2 ^ 31 by omega)
      refine lv_aload_n F.1.1 F.1.2.1 dX7_mend_25 rfl (lv_at hl 0 rfl) ?_
      refine mc_Vv (As := []) F hM (ct_records l hd (by assumption) (by omega)) (cwV 0 F.1.2.2.2.2 (lw_V q1800 q1802 qs36 q88 q1803) rfl rfl rfl (by decide +kernel) (mRm_ok (by decide) (by decide))) (tM_0 hd) rfl rfl rfl rfl hl.1 rfl (Nat.le_of_ble_eq_true rfl) dX7_mend_26 ⟨Nat.le_of_ble_eq_true rfl, Nat.le_of_ble_eq_true rfl⟩ (fun H locs hM => ?_)
      refine lv_aload_n F.1.1 F.1.2.1 dX7_mend_29 rfl (lv_at hl 0 rfl) ?_
      refine lv_iload_n F.1.1 F.1.2.1 dX7_mend_30 rfl (lv_at hl 1 rfl) ?_
      refine lv_iload_n F.1.1 F.1.2.1 dX7_mend_31 rfl (lv_at hl 2 rfl) ?_
      refine mc_Va (As := [_, _]) F hM (ct_mends l hd (by omega) (by omega)) (cwV 2 F.1.2.2.2.2 (lw_V q1939 q1941 qs55 q88 q1942) rfl rfl rfl (by decide +kernel) (mRm_ok (by decide) (by decide))) (tM_0 hd) rfl rfl rfl rfl hl.1 rfl (Nat.le_of_ble_eq_true rfl) dX7_mend_32 ⟨Nat.le_of_ble_eq_true rfl, Nat.le_of_ble_eq_true rfl⟩ (fun H locs hM => ?_)
      exact mr_iret F hQ hM (by first | exact Or.inl ⟨by rw [hv]; decide, rfl, by rw [hv, bx_uu]⟩ | exact Or.inr ⟨hv, by simp only [ed, en], by simp only [ed, en]⟩) (Nat.le_of_ble_eq_true rfl) (Nat.le_of_ble_eq_true rfl) dX7_mend_35
    · have hv : kHead x z = 1 := by unfold kHead; exact cd1_1 (fun q => c16 q.2)
      refine lv_aload_n F.1.1 F.1.2.1 dX7_mend_19 rfl (lv_at hl 0 rfl) ?_
      refine mr_iconst F 1 dX7_mend_20 (by decide +kernel) ?_
      refine mc_Va (As := [_]) F hM (ct_fails l hd ) (cwV 1 F.1.2.2.2.2 (lw_V q1789 q1791 qs34 q88 q1792) rfl rfl rfl (by decide +kernel) (mRm_ok (by decide) (by decide))) (tM_0 hd) rfl rfl rfl rfl hl.1 rfl (Nat.le_of_ble_eq_true rfl) dX7_mend_21 ⟨Nat.le_of_ble_eq_true rfl, Nat.le_of_ble_eq_true rfl⟩ (fun H locs hM => ?_)
      exact mr_iret F hQ hM (by first | exact Or.inl ⟨by rw [hv]; decide, rfl, by rw [hv, bx_uu]⟩ | exact Or.inr ⟨hv, by simp only [ed, en], by simp only [ed, en]⟩) (Nat.le_of_ble_eq_true rfl) (Nat.le_of_ble_eq_true rfl) dX7_mend_24
set_option maxHeartbeats 4000000 in
theorem ct_polish (l : Launch) {G : mG} {ad : Nat → Nat} {g r : Nat → Int32} {f : Nat → UInt32} {h : tH} {b : Nat → Int32} {M0 : mM} {m0 : Nat} {x : Int32} (hd : tAd ad) (hI : mInv r f) (hg : g 4 = nI m0) (hm : m0 ≤ 5) : mMet l yX7_polish (ws_ yX7_polish cX7_polish 3 (some .int)) (mRm 4 0 0) [.ref (ad 0), .int x] G (pPre (tM G ad g r f h b M0)) (qPost (kPolish r x) (.int (nI 0)) (.int (nPolN r (nD x) 3)) (tM G ad (va_up g 10 (nI (kPolish r x))) r f h b M0) (tM G ad (va_up (va_up g 10 (nI 0)) 4 (nI (mK m0 + 1))) (nPolR r (nD x) 3) (nPolF r f (nD x) 3) (mRc m0 h r f) b M0)) := by
  refine mMet.of (by decide +kernel) (Nat.le_of_ble_eq_true rfl) fun p e s m args below meth c A Q M hM0 F hnm hQ hM ls hl => ?_
  have hM0 : M = tM G ad g r f h b M0 := hM0
  subst hM0
  have hl : lv_has ls 3 [(0, .ref (ad 0)), (1, .int x)] := hl
  obtain ⟨np, hnp, hnp6, hpk, hun⟩ := hI.1
  have enp : nD (r 89) = np := by rw [hnp]; exact nD_nI (by omega)
  refine lv_aload_n F.1.1 F.1.2.1 dX7_polish_0 rfl (lv_at hl 0 rfl) ?_
  refine mr_iconst F 0 dX7_polish_1 (by decide +kernel) ?_
  refine tr_put F hd hM 10 (by decide) q1730 rfl rfl rfl (tw_s10 _ _ _) dX7_polish_2 (fun H locs hM => ?_)
  refine lv_aload_n F.1.1 F.1.2.1 dX7_polish_5 rfl (lv_at hl 0 rfl) ?_
  refine lv_iload_n F.1.1 F.1.2.1 dX7_polish_6 rfl (lv_at hl 1 rfl) ?_
  refine mc_Va (As := [_]) F hM (ct_polishRefusal l hd (by assumption) (by omega)) (cwV 1 F.1.2.2.2.2 (lw_V q1947 q1949 qs56 q88 q1950) rfl rfl rfl (by decide +kernel) (mRm_ok (by decide) (by decide))) (tM_0 hd) rfl rfl rfl rfl hl.1 rfl (Nat.le_of_ble_eq_true rfl) dX7_polish_7 ⟨Nat.le_of_ble_eq_true rfl, Nat.le_of_ble_eq_true rfl⟩ (fun H locs hM => ?_)
  refine lv_istore_n (lv' := [(2, _), (0, _), (1, _)]) F.1.1 F.1.2.1 dX7_polish_10 rfl hl (by decide) rfl (fun ls hl => ?_)
  refine lv_iload_n F.1.1 F.1.2.1 dX7_polish_11 rfl (lv_at hl 0 rfl) ?_
  have hkb : kPolish r x < 2 ^ 31 := Nat.lt_of_le_of_lt (cd2_le _ _) (by decide)
  refine mr_ifleN F (tgt := 21) dX7_polish_12 (by decide) (by omega) (fun c12 => ?_) (fun c12 => ?_)
  · obtain ⟨⟨d, hd4, rfl⟩, -⟩ := cd2_z c12
    rw [enp] at hd4
    have ed := nD_nI (show d < 2 ^ 31 by omega)
    have hfs := hI.2.2.2.2.2.2.2.2.2.2.2.1
    refine lv_aload_n F.1.1 F.1.2.1 dX7_polish_21 rfl (lv_at hl 1 rfl) ?_
    refine mc_Vv (As := []) F hM (ct_records l hd (by assumption) (by omega)) (cwV 0 F.1.2.2.2.2 (lw_V q1800 q1802 qs36 q88 q1803) rfl rfl rfl (by decide +kernel) (mRm_ok (by decide) (by decide))) (tM_0 hd) rfl rfl rfl rfl hl.1 rfl (Nat.le_of_ble_eq_true rfl) dX7_polish_22 ⟨Nat.le_of_ble_eq_true rfl, Nat.le_of_ble_eq_true rfl⟩ (fun H locs hM => ?_)
    refine lv_aload_n F.1.1 F.1.2.1 dX7_polish_25 rfl (lv_at hl 1 rfl) ?_
    refine lv_iload_n F.1.1 F.1.2.1 dX7_polish_26 rfl (lv_at hl 2 rfl) ?_
    refine mc_Va (As := [_]) F hM (ct_polishes l hd (by assumption) (by omega)) (cwV 1 F.1.2.2.2.2 (lw_V q1951 q1953 qs57 q88 q1954) rfl rfl rfl (by decide +kernel) (mRm_ok (by decide) (by decide))) (tM_0 hd) rfl rfl rfl rfl hl.1 rfl (Nat.le_of_ble_eq_true rfl) dX7_polish_27 ⟨Nat.le_of_ble_eq_true rfl, Nat.le_of_ble_eq_true rfl⟩ (fun H locs hM => ?_)
    exact mr_iret F hQ hM (by first | exact Or.inl ⟨c12, rfl, by rw [bx_uu]⟩ | exact Or.inr ⟨c12, by simp only [ed], by simp only [ed]⟩) (Nat.le_of_ble_eq_true rfl) (Nat.le_of_ble_eq_true rfl) dX7_polish_30
  · refine lv_aload_n F.1.1 F.1.2.1 dX7_polish_15 rfl (lv_at hl 1 rfl) ?_
    refine lv_iload_n F.1.1 F.1.2.1 dX7_polish_16 rfl (lv_at hl 0 rfl) ?_
    refine mc_Va (As := [_]) F hM (ct_fails l hd ) (cwV 1 F.1.2.2.2.2 (lw_V q1789 q1791 qs34 q88 q1792) rfl rfl rfl (by decide +kernel) (mRm_ok (by decide) (by decide))) (tM_0 hd) rfl rfl rfl rfl hl.1 rfl (Nat.le_of_ble_eq_true rfl) dX7_polish_17 ⟨Nat.le_of_ble_eq_true rfl, Nat.le_of_ble_eq_true rfl⟩ (fun H locs hM => ?_)
    exact mr_iret F hQ hM (by first | exact Or.inl ⟨c12, rfl, by rw [bx_uu]⟩ | exact Or.inr ⟨c12, by simp only [ed], by simp only [ed]⟩) (Nat.le_of_ble_eq_true rfl) (Nat.le_of_ble_eq_true rfl) dX7_polish_20
set_option maxHeartbeats 4000000 in
theorem ct_append (l : Launch) {G : mG} {ad : Nat → Nat} {g r : Nat → Int32} {f : Nat → UInt32} {h : tH} {b : Nat → Int32} {M0 : mM} {lb : Nat} {u : Int32} (hd : tAd ad) (hlb : g 9 = nI lb) (hb60 : lb ≤ 60) : mMet l yX7_append (ws_ yX7_append cX7_append 2 (some .int)) (mRm 2 0 0) [.ref (ad 0), .int u] G (pPre (tM G ad g r f h b M0)) (qPost (kApp lb u) (.int (nI 0)) (.int (nI (lb + 1))) (tM G ad (va_up g 10 (nI (kApp lb u))) r f h b M0) (tM G ad (va_up (va_up g 10 (nI 0)) 9 (nI (lb + 1))) r f h (va_up b lb u) M0)) := by
  refine mMet.of (by decide +kernel) (Nat.le_of_ble_eq_true rfl) fun p e s m args below meth c A Q M hM0 F hnm hQ hM ls hl => ?_
  have hM0 : M = tM G ad g r f h b M0 := hM0
  subst hM0
  have hl : lv_has ls 2 [(0, .ref (ad 0)), (1, .int u)] := hl
  refine lv_aload_n F.1.1 F.1.2.1 dX7_append_0 rfl (lv_at hl 0 rfl) ?_
  refine mr_iconst F 0 dX7_append_1 (by decide +kernel) ?_
  refine tr_put F hd hM 10 (by decide) q1730 rfl rfl rfl (tw_s10 _ _ _) dX7_append_2 (fun H locs hM => ?_)
  refine lv_iload_n F.1.1 F.1.2.1 dX7_append_5 rfl (lv_at hl 1 rfl) ?_
  refine mr_bipush F 32 dX7_append_6 (by decide +kernel) ?_
  refine mr_bipush F 126 dX7_append_8 (by decide +kernel) ?_
  refine mc_Sa (As := [_, _, _]) F hM (ct_in l ) (va_cwS 3 F.1.2.2.2.2 (lw_S q1783 q1784 q88 q1785) rfl rfl rfl (by decide +kernel) (mRm_ok (by decide) (by decide))) rfl rfl hl.1 rfl (Nat.le_of_ble_eq_true rfl) dX7_append_10 ⟨Nat.le_of_ble_eq_true rfl, Nat.le_of_ble_eq_true rfl⟩ (fun H locs hM => ?_)
  refine mr_ifneB F (tgt := 22) dX7_append_13 (by decide) (fun c13 => ?_) (fun c13 => ?_)
  · refine lv_aload_n F.1.1 F.1.2.1 dX7_append_22 rfl (lv_at hl 0 rfl) ?_
    refine tr_get F hd hM 9 (by decide) q1729 (congrArg (fun z => some (Value.int z)) ((va_up_ne _ _ (by decide)).trans hlb)) dX7_append_23 ?_
    refine mr_bipush F 60 dX7_append_26 (by decide +kernel) ?_
    refine mr_icmp_neN F (tgt := 37) dX7_append_28 (by decide) (by omega) (by omega) (fun c28 => ?_) (fun c28 => ?_)
    · have hv : kApp lb u = 0 := by unfold kApp; exact cd2_0 c13 c28
      refine lv_aload_n F.1.1 F.1.2.1 dX7_append_37 rfl (lv_at hl 0 rfl) ?_
      refine tr_get F hd hM 8 (by decide) q1728 rfl dX7_append_38 ?_
      refine lv_aload_n F.1.1 F.1.2.1 dX7_append_41 rfl (lv_at hl 0 rfl) ?_
      refine tr_get F hd hM 9 (by decide) q1729 (congrArg (fun z => some (Value.int z)) ((va_up_ne _ _ (by decide)).trans hlb)) dX7_append_42 ?_
      refine lv_iload_n F.1.1 F.1.2.1 dX7_append_45 rfl (lv_at hl 1 rfl) ?_
      refine tr_st7 F hd hM (by omega) dX7_append_46 (fun H locs hM => ?_)
      refine lv_aload_n F.1.1 F.1.2.1 dX7_append_47 rfl (lv_at hl 0 rfl) ?_
      refine lv_dup F.1.1 F.1.2.1 dX7_append_48 rfl ?_
      refine tr_get F hd hM 9 (by decide) q1729 (congrArg (fun z => some (Value.int z)) ((va_up_ne _ _ (by decide)).trans hlb)) dX7_append_49 ?_
      refine mr_iconst F 1 dX7_append_52 (by decide +kernel) ?_
      refine mr_iaddN F dX7_append_53 ?_
      refine tr_put F hd hM 9 (by decide) q1729 rfl rfl rfl (tw_s9 _ _ _) dX7_append_54 (fun H locs hM => ?_)
      refine lv_aload_n F.1.1 F.1.2.1 dX7_append_57 rfl (lv_at hl 0 rfl) ?_
      refine tr_get F hd hM 9 (by decide) q1729 (congrArg (fun z => some (Value.int z)) (va_up_self _ _ _)) dX7_append_58 ?_
      exact mr_iret F hQ hM (by first | exact Or.inl ⟨by rw [hv]; decide, rfl, by rw [hv, bx_uu]⟩ | exact Or.inr ⟨hv, rfl, rfl⟩) (Nat.le_of_ble_eq_true rfl) (Nat.le_of_ble_eq_true rfl) dX7_append_61
    · have hv : kApp lb u = 2 := by unfold kApp; exact cd2_2 c13 (fun q => q c28)
      refine lv_aload_n F.1.1 F.1.2.1 dX7_append_31 rfl (lv_at hl 0 rfl) ?_
      refine mr_iconst F 2 dX7_append_32 (by decide +kernel) ?_
      refine mc_Va (As := [_]) F hM (ct_fails l hd ) (cwV 1 F.1.2.2.2.2 (lw_V q1789 q1791 qs34 q88 q1792) rfl rfl rfl (by decide +kernel) (mRm_ok (by decide) (by decide))) (tM_0 hd) rfl rfl rfl rfl hl.1 rfl (Nat.le_of_ble_eq_true rfl) dX7_append_33 ⟨Nat.le_of_ble_eq_true rfl, Nat.le_of_ble_eq_true rfl⟩ (fun H locs hM => ?_)
      exact mr_iret F hQ hM (by first | exact Or.inl ⟨by rw [hv]; decide, rfl, by rw [hv, bx_uu]⟩ | exact Or.inr ⟨hv, rfl, rfl⟩) (Nat.le_of_ble_eq_true rfl) (Nat.le_of_ble_eq_true rfl) dX7_append_36
  · have hv : kApp lb u = 1 := by unfold kApp; exact cd2_1 c13
    refine lv_aload_n F.1.1 F.1.2.1 dX7_append_16 rfl (lv_at hl 0 rfl) ?_
    refine mr_iconst F 1 dX7_append_17 (by decide +kernel) ?_
    refine mc_Va (As := [_]) F hM (ct_fails l hd ) (cwV 1 F.1.2.2.2.2 (lw_V q1789 q1791 qs34 q88 q1792) rfl rfl rfl (by decide +kernel) (mRm_ok (by decide) (by decide))) (tM_0 hd) rfl rfl rfl rfl hl.1 rfl (Nat.le_of_ble_eq_true rfl) dX7_append_18 ⟨Nat.le_of_ble_eq_true rfl, Nat.le_of_ble_eq_true rfl⟩ (fun H locs hM => ?_)
    exact mr_iret F hQ hM (by first | exact Or.inl ⟨by rw [hv]; decide, rfl, by rw [hv, bx_uu]⟩ | exact Or.inr ⟨hv, rfl, rfl⟩) (Nat.le_of_ble_eq_true rfl) (Nat.le_of_ble_eq_true rfl) dX7_append_21
set_option maxHeartbeats 4000000 in
theorem ct_clearText (l : Launch) {G : mG} {ad : Nat → Nat} {g r : Nat → Int32} {f : Nat → UInt32} {h : tH} {b : Nat → Int32} {M0 : mM}  (hd : tAd ad) : mMet l yX7_clearText (ws_ yX7_clearText cX7_clearText 2 (some .int)) (mRm 1 0 0) [.ref (ad 0)] G (pPre (tM G ad g r f h b M0)) (pPost (tM G ad (va_up (va_up g 10 (nI 0)) 9 (nI 0)) r f h b M0) (some (.int (g 9)))) := by
  refine mMet.of (by decide +kernel) (Nat.le_of_ble_eq_true rfl) fun p e s m args below meth c A Q M hM0 F hnm hQ hM ls hl => ?_
  have hM0 : M = tM G ad g r f h b M0 := hM0
  subst hM0
  have hl : lv_has ls 2 [(0, .ref (ad 0))] := hl
  refine lv_aload_n F.1.1 F.1.2.1 dX7_clearText_0 rfl (lv_at hl 0 rfl) ?_
  refine mr_iconst F 0 dX7_clearText_1 (by decide +kernel) ?_
  refine tr_put F hd hM 10 (by decide) q1730 rfl rfl rfl (tw_s10 _ _ _) dX7_clearText_2 (fun H locs hM => ?_)
  refine lv_aload_n F.1.1 F.1.2.1 dX7_clearText_5 rfl (lv_at hl 0 rfl) ?_
  refine tr_get F hd hM 9 (by decide) q1729 rfl dX7_clearText_6 ?_
  refine lv_istore_n (lv' := [(1, _), (0, _)]) F.1.1 F.1.2.1 dX7_clearText_9 rfl hl (by decide) rfl (fun ls hl => ?_)
  refine lv_aload_n F.1.1 F.1.2.1 dX7_clearText_10 rfl (lv_at hl 1 rfl) ?_
  refine mr_iconst F 0 dX7_clearText_11 (by decide +kernel) ?_
  refine tr_put F hd hM 9 (by decide) q1729 rfl rfl rfl (tw_s9 _ _ _) dX7_clearText_12 (fun H locs hM => ?_)
  refine lv_iload_n F.1.1 F.1.2.1 dX7_clearText_15 rfl (lv_at hl 0 rfl) ?_
  exact mr_iret F hQ hM ⟨rfl, rfl⟩ (Nat.le_of_ble_eq_true rfl) (Nat.le_of_ble_eq_true rfl) dX7_clearText_16
set_option maxHeartbeats 4000000 in
theorem ct_undo (l : Launch) {G : mG} {ad : Nat → Nat} {g r : Nat → Int32} {f : Nat → UInt32} {h : tH} {b : Nat → Int32} {M0 : mM} {m0 : Nat} (hd : tAd ad) (hg : g 4 = nI m0) (hm : m0 ≤ 5) : mMet l yX7_undo (ws_ yX7_undo cX7_undo 2 (some .int)) (mRm 2 0 0) [.ref (ad 0)] G (pPre (tM G ad g r f h b M0)) (qPost (kUndo m0) (.int (nI 0)) (.int (nI (m0 - 1))) (tM G ad (va_up g 10 (nI (kUndo m0))) r f h b M0) (tM G ad (va_up (va_up g 10 (nI 0)) 4 (nI (m0 - 1))) (va_cpy h.1 r (1566 * (m0 - 1)) 0 1566) (va_cpy h.2.1 f (720 * (m0 - 1)) 0 720) h b M0)) := by
  refine mMet.of (by decide +kernel) (Nat.le_of_ble_eq_true rfl) fun p e s m args below meth c A Q M hM0 F hnm hQ hM ls hl => ?_
  have hM0 : M = tM G ad g r f h b M0 := hM0
  subst hM0
  have hl : lv_has ls 2 [(0, .ref (ad 0))] := hl
  refine lv_aload_n F.1.1 F.1.2.1 dX7_undo_0 rfl (lv_at hl 0 rfl) ?_
  refine mr_iconst F 0 dX7_undo_1 (by decide +kernel) ?_
  refine tr_put F hd hM 10 (by decide) q1730 rfl rfl rfl (tw_s10 _ _ _) dX7_undo_2 (fun H locs hM => ?_)
  refine lv_aload_n F.1.1 F.1.2.1 dX7_undo_5 rfl (lv_at hl 0 rfl) ?_
  refine tr_get F hd hM 4 (by decide) q1724 (congrArg (fun z => some (Value.int z)) ((va_up_ne _ _ (by decide)).trans hg)) dX7_undo_6 ?_
  refine mr_ifneN F (tgt := 18) dX7_undo_9 (by decide) (by omega) (fun c9 => ?_) (fun c9 => ?_)
  · have hv : kUndo m0 = 0 := cd1_0 c9
    refine lv_aload_n F.1.1 F.1.2.1 dX7_undo_18 rfl (lv_at hl 0 rfl) ?_
    refine lv_dup F.1.1 F.1.2.1 dX7_undo_19 rfl ?_
    refine tr_get F hd hM 4 (by decide) q1724 (congrArg (fun z => some (Value.int z)) ((va_up_ne _ _ (by decide)).trans hg)) dX7_undo_20 ?_
    refine mr_iconst F 1 dX7_undo_23 (by decide +kernel) ?_
    refine mr_isubN F (by omega) dX7_undo_24 ?_
    refine tr_put F hd hM 4 (by decide) q1724 rfl rfl rfl (tw_s4 _ _ _) dX7_undo_25 (fun H locs hM => ?_)
    refine mr_iconst F 0 dX7_undo_28 (by decide +kernel) ?_
    refine lv_istore_n (lv' := [(1, _), (0, _)]) F.1.1 F.1.2.1 dX7_undo_29 rfl hl (by decide) rfl (fun ls hl => ?_)
    have la : ∀ i k : Nat, k + i = 1566 → ∀ (H : Heap) (locs : List Loc), mWd G A s.heap (tM G ad (va_up (va_up g 10 (nI 0)) 4 (nI (m0 - 1))) (va_cpy h.1 r (1566 * (m0 - 1)) 0 k) f h b M0) H locs → ∀ ls : Array Slot, lv_has ls 2 [(1, .int (nI k)), (0, .ref (ad 0))] → W p l e (mRm 2 0 0) s m args below meth c H locs 0 0 Q (F0 m 30 ls []) := by
      intro i
      induction i with
      | zero =>
        intro k hk H locs hM ls hl
        obtain rfl : k = 1566 := by omega
        refine lv_iload_n F.1.1 F.1.2.1 dX7_undo_30 rfl (lv_at hl 0 rfl) ?_
        refine mr_sipush F 1566 dX7_undo_31 (by decide +kernel) ?_
        refine mr_icmp_geN F (tgt := 64) dX7_undo_34 (by decide) (by omega) (by omega) (fun c34 => ?_) (fun c34 => ?_)
        · refine mr_iconst F 0 dX7_undo_64 (by decide +kernel) ?_
          refine lv_istore_n (lv' := [(1, _), (0, _)]) F.1.1 F.1.2.1 dX7_undo_65 rfl hl (by decide) rfl (fun ls hl => ?_)
          have lb : ∀ i k : Nat, k + i = 720 → ∀ (H : Heap) (locs : List Loc), mWd G A s.heap (tM G ad (va_up (va_up g 10 (nI 0)) 4 (nI (m0 - 1))) (va_cpy h.1 r (1566 * (m0 - 1)) 0 1566) (va_cpy h.2.1 f (720 * (m0 - 1)) 0 k) h b M0) H locs → ∀ ls : Array Slot, lv_has ls 2 [(1, .int (nI k)), (0, .ref (ad 0))] → W p l e (mRm 2 0 0) s m args below meth c H locs 0 0 Q (F0 m 66 ls []) := by
            intro i
            induction i with
            | zero =>
              intro k hk H locs hM ls hl
              obtain rfl : k = 720 := by omega
              refine lv_iload_n F.1.1 F.1.2.1 dX7_undo_66 rfl (lv_at hl 0 rfl) ?_
              refine mr_sipush F 720 dX7_undo_67 (by decide +kernel) ?_
              refine mr_icmp_geN F (tgt := 100) dX7_undo_70 (by decide) (by omega) (by omega) (fun c70 => ?_) (fun c70 => ?_)
              · refine lv_aload_n F.1.1 F.1.2.1 dX7_undo_100 rfl (lv_at hl 1 rfl) ?_
                refine tr_get F hd hM 4 (by decide) q1724 (congrArg (fun z => some (Value.int z)) (va_up_self _ _ _)) dX7_undo_101 ?_
                exact mr_iret F hQ hM (by first | exact Or.inl ⟨by rw [hv]; decide, rfl, by rw [hv, bx_uu]⟩ | exact Or.inr ⟨hv, rfl, rfl⟩) (Nat.le_of_ble_eq_true rfl) (Nat.le_of_ble_eq_true rfl) dX7_undo_104
              · exact absurd c70 (by omega)
            | succ i ih =>
              intro k hk H locs hM ls hl
              refine lv_iload_n F.1.1 F.1.2.1 dX7_undo_66 rfl (lv_at hl 0 rfl) ?_
              refine mr_sipush F 720 dX7_undo_67 (by decide +kernel) ?_
              refine mr_icmp_geN F (tgt := 100) dX7_undo_70 (by decide) (by omega) (by omega) (fun c70 => ?_) (fun c70 => ?_)
              · exact absurd c70 (by omega)
              · refine lv_aload_n F.1.1 F.1.2.1 dX7_undo_73 rfl (lv_at hl 1 rfl) ?_
                refine tr_get F hd hM 1 (by decide) q1721 rfl dX7_undo_74 ?_
                refine lv_iload_n F.1.1 F.1.2.1 dX7_undo_77 rfl (lv_at hl 0 rfl) ?_
                refine lv_aload_n F.1.1 F.1.2.1 dX7_undo_78 rfl (lv_at hl 1 rfl) ?_
                refine tr_get F hd hM 3 (by decide) q1723 rfl dX7_undo_79 ?_
                refine mr_sipush F 720 dX7_undo_82 (by decide +kernel) ?_
                refine lv_aload_n F.1.1 F.1.2.1 dX7_undo_85 rfl (lv_at hl 1 rfl) ?_
                refine tr_get F hd hM 4 (by decide) q1724 (congrArg (fun z => some (Value.int z)) (va_up_self _ _ _)) dX7_undo_86 ?_
                refine mr_imulN F dX7_undo_89 ?_
                refine lv_iload_n F.1.1 F.1.2.1 dX7_undo_90 rfl (lv_at hl 0 rfl) ?_
                refine mr_iaddN F dX7_undo_91 ?_
                refine tr_ld4 F hd hM (by omega) rfl dX7_undo_92 ?_
                refine tr_st2 F hd hM (by omega) dX7_undo_93 (fun H locs hM => ?_)
                refine lv_iinc (lv' := [(1, _), (0, _)]) F.1.1 F.1.2.1 dX7_undo_94 hl (k := 0) rfl (nK_add _ 1) (by decide) rfl (fun ls hl => ?_)
                refine lv_goto (tgt := 66) F.1.1 F.1.2.1 dX7_undo_97 (by decide) ?_
                rw [cp_up0] at hM
                exact ih (k + 1) (by omega) _ _ hM _ (lv_sub hl [0, 1] rfl)
          exact lb 720 0 (by omega) _ _ (by rw [cp_zero]; exact hM) _ hl
        · exact absurd c34 (by omega)
      | succ i ih =>
        intro k hk H locs hM ls hl
        refine lv_iload_n F.1.1 F.1.2.1 dX7_undo_30 rfl (lv_at hl 0 rfl) ?_
        refine mr_sipush F 1566 dX7_undo_31 (by decide +kernel) ?_
        refine mr_icmp_geN F (tgt := 64) dX7_undo_34 (by decide) (by omega) (by omega) (fun c34 => ?_) (fun c34 => ?_)
        · exact absurd c34 (by omega)
        · refine lv_aload_n F.1.1 F.1.2.1 dX7_undo_37 rfl (lv_at hl 1 rfl) ?_
          refine tr_get F hd hM 0 (by decide) q1720 rfl dX7_undo_38 ?_
          refine lv_iload_n F.1.1 F.1.2.1 dX7_undo_41 rfl (lv_at hl 0 rfl) ?_
          refine lv_aload_n F.1.1 F.1.2.1 dX7_undo_42 rfl (lv_at hl 1 rfl) ?_
          refine tr_get F hd hM 2 (by decide) q1722 rfl dX7_undo_43 ?_
          refine mr_sipush F 1566 dX7_undo_46 (by decide +kernel) ?_
          refine lv_aload_n F.1.1 F.1.2.1 dX7_undo_49 rfl (lv_at hl 1 rfl) ?_
          refine tr_get F hd hM 4 (by decide) q1724 (congrArg (fun z => some (Value.int z)) (va_up_self _ _ _)) dX7_undo_50 ?_
          refine mr_imulN F dX7_undo_53 ?_
          refine lv_iload_n F.1.1 F.1.2.1 dX7_undo_54 rfl (lv_at hl 0 rfl) ?_
          refine mr_iaddN F dX7_undo_55 ?_
          refine tr_ld3 F hd hM (by omega) rfl dX7_undo_56 ?_
          refine tr_st1 F hd hM (by omega) dX7_undo_57 (fun H locs hM => ?_)
          refine lv_iinc (lv' := [(1, _), (0, _)]) F.1.1 F.1.2.1 dX7_undo_58 hl (k := 0) rfl (nK_add _ 1) (by decide) rfl (fun ls hl => ?_)
          refine lv_goto (tgt := 30) F.1.1 F.1.2.1 dX7_undo_61 (by decide) ?_
          rw [cp_up0] at hM
          exact ih (k + 1) (by omega) _ _ hM _ (lv_sub hl [0, 1] rfl)
    exact la 1566 0 (by omega) _ _ (by rw [cp_zero]; exact hM) _ hl
  · have hv : kUndo m0 = 1 := cd1_1 (fun q => q c9)
    refine lv_aload_n F.1.1 F.1.2.1 dX7_undo_12 rfl (lv_at hl 0 rfl) ?_
    refine mr_iconst F 1 dX7_undo_13 (by decide +kernel) ?_
    refine mc_Va (As := [_]) F hM (ct_fails l hd ) (cwV 1 F.1.2.2.2.2 (lw_V q1789 q1791 qs34 q88 q1792) rfl rfl rfl (by decide +kernel) (mRm_ok (by decide) (by decide))) (tM_0 hd) rfl rfl rfl rfl hl.1 rfl (Nat.le_of_ble_eq_true rfl) dX7_undo_14 ⟨Nat.le_of_ble_eq_true rfl, Nat.le_of_ble_eq_true rfl⟩ (fun H locs hM => ?_)
    exact mr_iret F hQ hM (by first | exact Or.inl ⟨by rw [hv]; decide, rfl, by rw [hv, bx_uu]⟩ | exact Or.inr ⟨hv, rfl, rfl⟩) (Nat.le_of_ble_eq_true rfl) (Nat.le_of_ble_eq_true rfl) dX7_undo_17
set_option maxHeartbeats 4000000 in
theorem ct_takeSnapshot (l : Launch) {G : mG} {ad : Nat → Nat} {g r : Nat → Int32} {f : Nat → UInt32} {h : tH} {b : Nat → Int32} {M0 : mM}  (hd : tAd ad) : mMet l yX7_takeSnapshot (ws_ yX7_takeSnapshot cX7_takeSnapshot 2 (some .int)) (mRm 1 0 0) [.ref (ad 0)] G (pPre (tM G ad g r f h b M0)) (pPost (tM G ad (va_up (va_up g 10 (nI 0)) 7 (nI 1)) r f (h.1, h.2.1, va_cpy r h.2.2.1 0 0 1566, va_cpy f h.2.2.2 0 0 720) b M0) (some (.int (r 89)))) := by
  refine mMet.of (by decide +kernel) (Nat.le_of_ble_eq_true rfl) fun p e s m args below meth c A Q M hM0 F hnm hQ hM ls hl => ?_
  have hM0 : M = tM G ad g r f h b M0 := hM0
  subst hM0
  have hl : lv_has ls 2 [(0, .ref (ad 0))] := hl
  refine lv_aload_n F.1.1 F.1.2.1 dX7_takeSnapshot_0 rfl (lv_at hl 0 rfl) ?_
  refine mr_iconst F 0 dX7_takeSnapshot_1 (by decide +kernel) ?_
  refine tr_put F hd hM 10 (by decide) q1730 rfl rfl rfl (tw_s10 _ _ _) dX7_takeSnapshot_2 (fun H locs hM => ?_)
  refine lv_aload_n F.1.1 F.1.2.1 dX7_takeSnapshot_5 rfl (lv_at hl 0 rfl) ?_
  refine mr_iconst F 1 dX7_takeSnapshot_6 (by decide +kernel) ?_
  refine tr_put F hd hM 7 (by decide) q1727 rfl (by first | rfl | exact nZ_bI _) (by first | rfl | exact fZ_bI _) (tw_s7 _ _ _) dX7_takeSnapshot_7 (fun H locs hM => ?_)
  refine mr_iconst F 0 dX7_takeSnapshot_10 (by decide +kernel) ?_
  refine lv_istore_n (lv' := [(1, _), (0, _)]) F.1.1 F.1.2.1 dX7_takeSnapshot_11 rfl hl (by decide) rfl (fun ls hl => ?_)
  have la : ∀ i k : Nat, k + i = 1566 → ∀ (H : Heap) (locs : List Loc), mWd G A s.heap (tM G ad (va_up (va_up g 10 (nI 0)) 7 (nI 1)) r f (h.1, h.2.1, va_cpy r h.2.2.1 0 0 k, h.2.2.2) b M0) H locs → ∀ ls : Array Slot, lv_has ls 2 [(1, .int (nI k)), (0, .ref (ad 0))] → W p l e (mRm 1 0 0) s m args below meth c H locs 0 0 Q (F0 m 12 ls []) := by
    intro i
    induction i with
    | zero =>
      intro k hk H locs hM ls hl
      obtain rfl : k = 1566 := by omega
      refine lv_iload_n F.1.1 F.1.2.1 dX7_takeSnapshot_12 rfl (lv_at hl 0 rfl) ?_
      refine mr_sipush F 1566 dX7_takeSnapshot_13 (by decide +kernel) ?_
      refine mr_icmp_geN F (tgt := 37) dX7_takeSnapshot_16 (by decide) (by omega) (by omega) (fun c16 => ?_) (fun c16 => ?_)
      · refine mr_iconst F 0 dX7_takeSnapshot_37 (by decide +kernel) ?_
        refine lv_istore_n (lv' := [(1, _), (0, _)]) F.1.1 F.1.2.1 dX7_takeSnapshot_38 rfl hl (by decide) rfl (fun ls hl => ?_)
        have lb : ∀ i k : Nat, k + i = 720 → ∀ (H : Heap) (locs : List Loc), mWd G A s.heap (tM G ad (va_up (va_up g 10 (nI 0)) 7 (nI 1)) r f (h.1, h.2.1, va_cpy r h.2.2.1 0 0 1566, va_cpy f h.2.2.2 0 0 k) b M0) H locs → ∀ ls : Array Slot, lv_has ls 2 [(1, .int (nI k)), (0, .ref (ad 0))] → W p l e (mRm 1 0 0) s m args below meth c H locs 0 0 Q (F0 m 39 ls []) := by
          intro i
          induction i with
          | zero =>
            intro k hk H locs hM ls hl
            obtain rfl : k = 720 := by omega
            refine lv_iload_n F.1.1 F.1.2.1 dX7_takeSnapshot_39 rfl (lv_at hl 0 rfl) ?_
            refine mr_sipush F 720 dX7_takeSnapshot_40 (by decide +kernel) ?_
            refine mr_icmp_geN F (tgt := 64) dX7_takeSnapshot_43 (by decide) (by omega) (by omega) (fun c43 => ?_) (fun c43 => ?_)
            · refine lv_aload_n F.1.1 F.1.2.1 dX7_takeSnapshot_64 rfl (lv_at hl 1 rfl) ?_
              refine tr_get F hd hM 0 (by decide) q1720 rfl dX7_takeSnapshot_65 ?_
              refine mr_bipush F 89 dX7_takeSnapshot_68 (by decide +kernel) ?_
              refine tr_ld1 F hd hM (by omega) rfl dX7_takeSnapshot_70 ?_
              exact mr_iret F hQ hM ⟨rfl, rfl⟩ (Nat.le_of_ble_eq_true rfl) (Nat.le_of_ble_eq_true rfl) dX7_takeSnapshot_71
            · exact absurd c43 (by omega)
          | succ i ih =>
            intro k hk H locs hM ls hl
            refine lv_iload_n F.1.1 F.1.2.1 dX7_takeSnapshot_39 rfl (lv_at hl 0 rfl) ?_
            refine mr_sipush F 720 dX7_takeSnapshot_40 (by decide +kernel) ?_
            refine mr_icmp_geN F (tgt := 64) dX7_takeSnapshot_43 (by decide) (by omega) (by omega) (fun c43 => ?_) (fun c43 => ?_)
            · exact absurd c43 (by omega)
            · refine lv_aload_n F.1.1 F.1.2.1 dX7_takeSnapshot_46 rfl (lv_at hl 1 rfl) ?_
              refine tr_get F hd hM 6 (by decide) q1726 rfl dX7_takeSnapshot_47 ?_
              refine lv_iload_n F.1.1 F.1.2.1 dX7_takeSnapshot_50 rfl (lv_at hl 0 rfl) ?_
              refine lv_aload_n F.1.1 F.1.2.1 dX7_takeSnapshot_51 rfl (lv_at hl 1 rfl) ?_
              refine tr_get F hd hM 1 (by decide) q1721 rfl dX7_takeSnapshot_52 ?_
              refine lv_iload_n F.1.1 F.1.2.1 dX7_takeSnapshot_55 rfl (lv_at hl 0 rfl) ?_
              refine tr_ld2 F hd hM (by omega) (congrArg f (Nat.zero_add k).symm) dX7_takeSnapshot_56 ?_
              refine tr_st6 F hd hM (by omega) dX7_takeSnapshot_57 (fun H locs hM => ?_)
              refine lv_iinc (lv' := [(1, _), (0, _)]) F.1.1 F.1.2.1 dX7_takeSnapshot_58 hl (k := 0) rfl (nK_add _ 1) (by decide) rfl (fun ls hl => ?_)
              refine lv_goto (tgt := 39) F.1.1 F.1.2.1 dX7_takeSnapshot_61 (by decide) ?_
              rw [cp_up0] at hM
              exact ih (k + 1) (by omega) _ _ hM _ (lv_sub hl [0, 1] rfl)
        exact lb 720 0 (by omega) _ _ (by rw [cp_zero]; exact hM) _ hl
      · exact absurd c16 (by omega)
    | succ i ih =>
      intro k hk H locs hM ls hl
      refine lv_iload_n F.1.1 F.1.2.1 dX7_takeSnapshot_12 rfl (lv_at hl 0 rfl) ?_
      refine mr_sipush F 1566 dX7_takeSnapshot_13 (by decide +kernel) ?_
      refine mr_icmp_geN F (tgt := 37) dX7_takeSnapshot_16 (by decide) (by omega) (by omega) (fun c16 => ?_) (fun c16 => ?_)
      · exact absurd c16 (by omega)
      · refine lv_aload_n F.1.1 F.1.2.1 dX7_takeSnapshot_19 rfl (lv_at hl 1 rfl) ?_
        refine tr_get F hd hM 5 (by decide) q1725 rfl dX7_takeSnapshot_20 ?_
        refine lv_iload_n F.1.1 F.1.2.1 dX7_takeSnapshot_23 rfl (lv_at hl 0 rfl) ?_
        refine lv_aload_n F.1.1 F.1.2.1 dX7_takeSnapshot_24 rfl (lv_at hl 1 rfl) ?_
        refine tr_get F hd hM 0 (by decide) q1720 rfl dX7_takeSnapshot_25 ?_
        refine lv_iload_n F.1.1 F.1.2.1 dX7_takeSnapshot_28 rfl (lv_at hl 0 rfl) ?_
        refine tr_ld1 F hd hM (by omega) (congrArg r (Nat.zero_add k).symm) dX7_takeSnapshot_29 ?_
        refine tr_st5 F hd hM (by omega) dX7_takeSnapshot_30 (fun H locs hM => ?_)
        refine lv_iinc (lv' := [(1, _), (0, _)]) F.1.1 F.1.2.1 dX7_takeSnapshot_31 hl (k := 0) rfl (nK_add _ 1) (by decide) rfl (fun ls hl => ?_)
        refine lv_goto (tgt := 12) F.1.1 F.1.2.1 dX7_takeSnapshot_34 (by decide) ?_
        rw [cp_up0] at hM
        exact ih (k + 1) (by omega) _ _ hM _ (lv_sub hl [0, 1] rfl)
  exact la 1566 0 (by omega) _ _ (by rw [cp_zero]; exact hM) _ hl
set_option maxHeartbeats 4000000 in
theorem ct_restoreSnapshot (l : Launch) {G : mG} {ad : Nat → Nat} {g r : Nat → Int32} {f : Nat → UInt32} {h : tH} {b : Nat → Int32} {M0 : mM} {m0 : Nat} (hd : tAd ad) (hg : g 4 = nI m0) (hm : m0 ≤ 5) : mMet l yX7_restoreSnapshot (ws_ yX7_restoreSnapshot cX7_restoreSnapshot 2 (some .int)) (mRm 2 0 0) [.ref (ad 0)] G (pPre (tM G ad g r f h b M0)) (qPost (kRest g) (.int (nI 0)) (.int (h.2.2.1 89)) (tM G ad (va_up g 10 (nI (kRest g))) r f h b M0) (tM G ad (va_up (va_up g 10 (nI 0)) 4 (nI (mK m0 + 1))) (va_cpy h.2.2.1 r 0 0 1566) (va_cpy h.2.2.2 f 0 0 720) (mRc m0 h r f) b M0)) := by
  refine mMet.of (by decide +kernel) (Nat.le_of_ble_eq_true rfl) fun p e s m args below meth c A Q M hM0 F hnm hQ hM ls hl => ?_
  have hM0 : M = tM G ad g r f h b M0 := hM0
  subst hM0
  have hl : lv_has ls 2 [(0, .ref (ad 0))] := hl
  refine lv_aload_n F.1.1 F.1.2.1 dX7_restoreSnapshot_0 rfl (lv_at hl 0 rfl) ?_
  refine mr_iconst F 0 dX7_restoreSnapshot_1 (by decide +kernel) ?_
  refine tr_put F hd hM 10 (by decide) q1730 rfl rfl rfl (tw_s10 _ _ _) dX7_restoreSnapshot_2 (fun H locs hM => ?_)
  refine lv_aload_n F.1.1 F.1.2.1 dX7_restoreSnapshot_5 rfl (lv_at hl 0 rfl) ?_
  refine tr_get F hd hM 7 (by decide) q1727 (congrArg (fun z => some (Value.int z)) (va_up_ne _ _ (by decide))) dX7_restoreSnapshot_6 ?_
  refine lv_if_ne (tgt := 18) F.1.1 F.1.2.1 dX7_restoreSnapshot_9 (by decide) (fun c9 => ?_) (fun c9 => ?_)
  · have hv : kRest g = 0 := cd1_0 c9
    refine lv_aload_n F.1.1 F.1.2.1 dX7_restoreSnapshot_18 rfl (lv_at hl 0 rfl) ?_
    refine mc_Vv (As := []) F hM (ct_records l hd ((va_up_ne _ _ (by decide)).trans hg) hm) (cwV 0 F.1.2.2.2.2 (lw_V q1800 q1802 qs36 q88 q1803) rfl rfl rfl (by decide +kernel) (mRm_ok (by decide) (by decide))) (tM_0 hd) rfl rfl rfl rfl hl.1 rfl (Nat.le_of_ble_eq_true rfl) dX7_restoreSnapshot_19 ⟨Nat.le_of_ble_eq_true rfl, Nat.le_of_ble_eq_true rfl⟩ (fun H locs hM => ?_)
    refine mr_iconst F 0 dX7_restoreSnapshot_22 (by decide +kernel) ?_
    refine lv_istore_n (lv' := [(1, _), (0, _)]) F.1.1 F.1.2.1 dX7_restoreSnapshot_23 rfl hl (by decide) rfl (fun ls hl => ?_)
    have la : ∀ i k : Nat, k + i = 1566 → ∀ (H : Heap) (locs : List Loc), mWd G A s.heap (tM G ad (va_up (va_up g 10 (nI 0)) 4 (nI (mK m0 + 1))) (va_cpy h.2.2.1 r 0 0 k) f (mRc m0 h r f) b M0) H locs → ∀ ls : Array Slot, lv_has ls 2 [(1, .int (nI k)), (0, .ref (ad 0))] → W p l e (mRm 2 0 0) s m args below meth c H locs 0 0 Q (F0 m 24 ls []) := by
      intro i
      induction i with
      | zero =>
        intro k hk H locs hM ls hl
        obtain rfl : k = 1566 := by omega
        refine lv_iload_n F.1.1 F.1.2.1 dX7_restoreSnapshot_24 rfl (lv_at hl 0 rfl) ?_
        refine mr_sipush F 1566 dX7_restoreSnapshot_25 (by decide +kernel) ?_
        refine mr_icmp_geN F (tgt := 49) dX7_restoreSnapshot_28 (by decide) (by omega) (by omega) (fun c28 => ?_) (fun c28 => ?_)
        · refine mr_iconst F 0 dX7_restoreSnapshot_49 (by decide +kernel) ?_
          refine lv_istore_n (lv' := [(1, _), (0, _)]) F.1.1 F.1.2.1 dX7_restoreSnapshot_50 rfl hl (by decide) rfl (fun ls hl => ?_)
          have lb : ∀ i k : Nat, k + i = 720 → ∀ (H : Heap) (locs : List Loc), mWd G A s.heap (tM G ad (va_up (va_up g 10 (nI 0)) 4 (nI (mK m0 + 1))) (va_cpy h.2.2.1 r 0 0 1566) (va_cpy h.2.2.2 f 0 0 k) (mRc m0 h r f) b M0) H locs → ∀ ls : Array Slot, lv_has ls 2 [(1, .int (nI k)), (0, .ref (ad 0))] → W p l e (mRm 2 0 0) s m args below meth c H locs 0 0 Q (F0 m 51 ls []) := by
            intro i
            induction i with
            | zero =>
              intro k hk H locs hM ls hl
              obtain rfl : k = 720 := by omega
              refine lv_iload_n F.1.1 F.1.2.1 dX7_restoreSnapshot_51 rfl (lv_at hl 0 rfl) ?_
              refine mr_sipush F 720 dX7_restoreSnapshot_52 (by decide +kernel) ?_
              refine mr_icmp_geN F (tgt := 76) dX7_restoreSnapshot_55 (by decide) (by omega) (by omega) (fun c55 => ?_) (fun c55 => ?_)
              · refine lv_aload_n F.1.1 F.1.2.1 dX7_restoreSnapshot_76 rfl (lv_at hl 1 rfl) ?_
                refine tr_get F hd hM 0 (by decide) q1720 rfl dX7_restoreSnapshot_77 ?_
                refine mr_bipush F 89 dX7_restoreSnapshot_80 (by decide +kernel) ?_
                refine tr_ld1 F hd hM (by omega) (pk_cpy_in (by decide) (by decide)) dX7_restoreSnapshot_82 ?_
                exact mr_iret F hQ hM (by first | exact Or.inl ⟨by rw [hv]; decide, rfl, by rw [hv, bx_uu]⟩ | exact Or.inr ⟨hv, rfl, rfl⟩) (Nat.le_of_ble_eq_true rfl) (Nat.le_of_ble_eq_true rfl) dX7_restoreSnapshot_83
              · exact absurd c55 (by omega)
            | succ i ih =>
              intro k hk H locs hM ls hl
              refine lv_iload_n F.1.1 F.1.2.1 dX7_restoreSnapshot_51 rfl (lv_at hl 0 rfl) ?_
              refine mr_sipush F 720 dX7_restoreSnapshot_52 (by decide +kernel) ?_
              refine mr_icmp_geN F (tgt := 76) dX7_restoreSnapshot_55 (by decide) (by omega) (by omega) (fun c55 => ?_) (fun c55 => ?_)
              · exact absurd c55 (by omega)
              · refine lv_aload_n F.1.1 F.1.2.1 dX7_restoreSnapshot_58 rfl (lv_at hl 1 rfl) ?_
                refine tr_get F hd hM 1 (by decide) q1721 rfl dX7_restoreSnapshot_59 ?_
                refine lv_iload_n F.1.1 F.1.2.1 dX7_restoreSnapshot_62 rfl (lv_at hl 0 rfl) ?_
                refine lv_aload_n F.1.1 F.1.2.1 dX7_restoreSnapshot_63 rfl (lv_at hl 1 rfl) ?_
                refine tr_get F hd hM 6 (by decide) q1726 rfl dX7_restoreSnapshot_64 ?_
                refine lv_iload_n F.1.1 F.1.2.1 dX7_restoreSnapshot_67 rfl (lv_at hl 0 rfl) ?_
                refine tr_ld6 F hd hM (by omega) (congrArg h.2.2.2 (Nat.zero_add k).symm) dX7_restoreSnapshot_68 ?_
                refine tr_st2 F hd hM (by omega) dX7_restoreSnapshot_69 (fun H locs hM => ?_)
                refine lv_iinc (lv' := [(1, _), (0, _)]) F.1.1 F.1.2.1 dX7_restoreSnapshot_70 hl (k := 0) rfl (nK_add _ 1) (by decide) rfl (fun ls hl => ?_)
                refine lv_goto (tgt := 51) F.1.1 F.1.2.1 dX7_restoreSnapshot_73 (by decide) ?_
                rw [cp_up0] at hM
                exact ih (k + 1) (by omega) _ _ hM _ (lv_sub hl [0, 1] rfl)
          exact lb 720 0 (by omega) _ _ (by rw [cp_zero]; exact hM) _ hl
        · exact absurd c28 (by omega)
      | succ i ih =>
        intro k hk H locs hM ls hl
        refine lv_iload_n F.1.1 F.1.2.1 dX7_restoreSnapshot_24 rfl (lv_at hl 0 rfl) ?_
        refine mr_sipush F 1566 dX7_restoreSnapshot_25 (by decide +kernel) ?_
        refine mr_icmp_geN F (tgt := 49) dX7_restoreSnapshot_28 (by decide) (by omega) (by omega) (fun c28 => ?_) (fun c28 => ?_)
        · exact absurd c28 (by omega)
        · refine lv_aload_n F.1.1 F.1.2.1 dX7_restoreSnapshot_31 rfl (lv_at hl 1 rfl) ?_
          refine tr_get F hd hM 0 (by decide) q1720 rfl dX7_restoreSnapshot_32 ?_
          refine lv_iload_n F.1.1 F.1.2.1 dX7_restoreSnapshot_35 rfl (lv_at hl 0 rfl) ?_
          refine lv_aload_n F.1.1 F.1.2.1 dX7_restoreSnapshot_36 rfl (lv_at hl 1 rfl) ?_
          refine tr_get F hd hM 5 (by decide) q1725 rfl dX7_restoreSnapshot_37 ?_
          refine lv_iload_n F.1.1 F.1.2.1 dX7_restoreSnapshot_40 rfl (lv_at hl 0 rfl) ?_
          refine tr_ld5 F hd hM (by omega) (congrArg h.2.2.1 (Nat.zero_add k).symm) dX7_restoreSnapshot_41 ?_
          refine tr_st1 F hd hM (by omega) dX7_restoreSnapshot_42 (fun H locs hM => ?_)
          refine lv_iinc (lv' := [(1, _), (0, _)]) F.1.1 F.1.2.1 dX7_restoreSnapshot_43 hl (k := 0) rfl (nK_add _ 1) (by decide) rfl (fun ls hl => ?_)
          refine lv_goto (tgt := 24) F.1.1 F.1.2.1 dX7_restoreSnapshot_46 (by decide) ?_
          rw [cp_up0] at hM
          exact ih (k + 1) (by omega) _ _ hM _ (lv_sub hl [0, 1] rfl)
    exact la 1566 0 (by omega) _ _ (by rw [cp_zero]; exact hM) _ hl
  · have hv : kRest g = 1 := cd1_1 (fun q => q c9)
    refine lv_aload_n F.1.1 F.1.2.1 dX7_restoreSnapshot_12 rfl (lv_at hl 0 rfl) ?_
    refine mr_iconst F 1 dX7_restoreSnapshot_13 (by decide +kernel) ?_
    refine mc_Va (As := [_]) F hM (ct_fails l hd ) (cwV 1 F.1.2.2.2.2 (lw_V q1789 q1791 qs34 q88 q1792) rfl rfl rfl (by decide +kernel) (mRm_ok (by decide) (by decide))) (tM_0 hd) rfl rfl rfl rfl hl.1 rfl (Nat.le_of_ble_eq_true rfl) dX7_restoreSnapshot_14 ⟨Nat.le_of_ble_eq_true rfl, Nat.le_of_ble_eq_true rfl⟩ (fun H locs hM => ?_)
    exact mr_iret F hQ hM (by first | exact Or.inl ⟨by rw [hv]; decide, rfl, by rw [hv, bx_uu]⟩ | exact Or.inr ⟨hv, rfl, rfl⟩) (Nat.le_of_ble_eq_true rfl) (Nat.le_of_ble_eq_true rfl) dX7_restoreSnapshot_17
