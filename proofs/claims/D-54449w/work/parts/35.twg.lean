/-! THE REFERENCE: what it tells, last -/
set_option maxHeartbeats 4000000 in
theorem ct_isNaN (l : Launch) {G : mG} {M0 : mM} {v : UInt32} : mMet l yJ21_isNaN (ws_ yJ21_isNaN cJ21_isNaN 1 (some .boolean)) (mRm 1 0 0) [.float v] G (pPre (M0)) (pPost (M0) (some (.int (bI (¬ Op.cmpValue (FP.fcmp v v) CmpOp.l = 0))))) := by
  refine mMet.of (by decide +kernel) (Nat.le_of_ble_eq_true rfl) fun p e s m args below meth c A Q M hM0 F hnm hQ hM ls hl => ?_
  have hM0 : M = M0 := hM0
  subst hM0
  have hl : lv_has ls 1 [(0, .float v)] := hl
  refine lv_fload_n F.1.1 F.1.2.1 dJ21_isNaN_0 rfl (lv_at hl 0 rfl) ?_
  refine lv_fload_n F.1.1 F.1.2.1 dJ21_isNaN_1 rfl (lv_at hl 0 rfl) ?_
  refine lv_fcmp F.1.1 F.1.2.1 dJ21_isNaN_2 ?_
  refine lv_if_eq (tgt := 10) F.1.1 F.1.2.1 dJ21_isNaN_3 (by decide) (fun c3 => ?_) (fun c3 => ?_)
  · have hv : bI (¬ Op.cmpValue (FP.fcmp v v) CmpOp.l = 0) = nI 0 := bI_f (fun q => q c3)
    refine mr_iconst F 0 dJ21_isNaN_10 (by decide +kernel) ?_
    exact mr_zret F hQ (by first | rfl | exact nZ_bI _) hM ⟨by rw [hv], rfl⟩ (Nat.le_of_ble_eq_true rfl) (Nat.le_of_ble_eq_true rfl) dJ21_isNaN_11
  · have hv : bI (¬ Op.cmpValue (FP.fcmp v v) CmpOp.l = 0) = nI 1 := bI_t c3
    refine mr_iconst F 1 dJ21_isNaN_6 (by decide +kernel) ?_
    refine lv_goto (tgt := 11) F.1.1 F.1.2.1 dJ21_isNaN_7 (by decide) ?_
    exact mr_zret F hQ (by first | rfl | exact nZ_bI _) hM ⟨by rw [hv], rfl⟩ (Nat.le_of_ble_eq_true rfl) (Nat.le_of_ble_eq_true rfl) dJ21_isNaN_11
set_option maxHeartbeats 4000000 in
theorem ct_floatToIntBits (l : Launch) {G : mG} {M0 : mM} {v : UInt32} : mMet l yJ21_floatToIntBits (ws_ yJ21_floatToIntBits cJ21_floatToIntBits 1 (some .int)) (mRm 2 0 0) [.float v] G (pPre (M0)) (pPost (M0) (some (.int (mFb v)))) := by
  refine mMet.of (by decide +kernel) (Nat.le_of_ble_eq_true rfl) fun p e s m args below meth c A Q M hM0 F hnm hQ hM ls hl => ?_
  have hM0 : M = M0 := hM0
  subst hM0
  have hl : lv_has ls 1 [(0, .float v)] := hl
  refine lv_fload_n F.1.1 F.1.2.1 dJ21_floatToIntBits_0 rfl (lv_at hl 0 rfl) ?_
  refine mc_Sa (As := [_]) F hM (ct_isNaN l ) (va_cwS 1 F.1.2.2.2.2 (lw_S q1591 q1592 q102 q1593) rfl rfl rfl (by decide +kernel) (mRm_ok (by decide) (by decide))) rfl rfl hl.1 rfl (Nat.le_of_ble_eq_true rfl) dJ21_floatToIntBits_1 ⟨Nat.le_of_ble_eq_true rfl, Nat.le_of_ble_eq_true rfl⟩ (fun H locs hM => ?_)
  refine mr_ifneB F (tgt := 12) dJ21_floatToIntBits_4 (by decide) (fun c4 => ?_) (fun c4 => ?_)
  · have hv : mFb v = 2143289344 := if_neg c4
    refine lv_ldc F.1.1 F.1.2.1 F.1.2.2.2.1 (F.1.2.2.2.2 _ q1597) dJ21_floatToIntBits_12 ?_
    exact mr_iret F hQ hM ⟨by rw [hv], rfl⟩ (Nat.le_of_ble_eq_true rfl) (Nat.le_of_ble_eq_true rfl) dJ21_floatToIntBits_14
  · have hv : mFb v = v.toInt32 := if_pos (Classical.byContradiction c4)
    refine lv_fload_n F.1.1 F.1.2.1 dJ21_floatToIntBits_7 rfl (lv_at hl 0 rfl) ?_
    refine vn_f2i F.1.1 F.1.2.1 (F.1.2.2.1.trans hl.1.symm) F.1.2.2.2.1 (F.1.2.2.2.2 _ q1594) (F.1.2.2.2.2 _ q1596) (F.1.2.2.2.2 _ q1595) (F.1.2.2.2.2 _ q102) (Nat.le_of_ble_eq_true rfl) (Nat.le_of_ble_eq_true rfl) dJ21_floatToIntBits_8 ?_
    exact mr_iret F hQ hM ⟨by rw [hv], rfl⟩ (Nat.le_of_ble_eq_true rfl) (Nat.le_of_ble_eq_true rfl) dJ21_floatToIntBits_11
set_option maxHeartbeats 4000000 in
theorem ct_signalBits (l : Launch) {G : mG} {ad : Nat → Nat} {g r : Nat → Int32} {f : Nat → UInt32} {h : tH} {b : Nat → Int32} {M0 : mM} {x z u : Int32} (hd : tAd ad) (hI : mInv r f) : mMet l yX7_signalBits (ws_ yX7_signalBits cX7_signalBits 4 (some .int)) (mRm 4 0 0) [.ref (ad 0), .int x, .int z, .int u] G (pPre (tM G ad g r f h b M0)) (qPost (kSig r x z u) (.int (nI 0)) (.int (mFb (mSg r f (nD x) (nD z) (nD (r (60 + nD x))) (nD (r (52 + nD x))) u))) (tM G ad (va_up g 10 (nI (kSig r x z u))) r f h b M0) (tM G ad (va_up g 10 (nI 0)) r f h b M0)) := by
  refine mMet.of (by decide +kernel) (Nat.le_of_ble_eq_true rfl) fun p e s m args below meth c A Q M hM0 F hnm hQ hM ls hl => ?_
  have hM0 : M = tM G ad g r f h b M0 := hM0
  subst hM0
  have hl : lv_has ls 4 [(0, .ref (ad 0)), (1, .int x), (2, .int z), (3, .int u)] := hl
  obtain ⟨np, hnp, hnp6, hpk, hun⟩ := hI.1
  have enp : nD (r 89) = np := by rw [hnp]; exact nD_nI (by omega)
  refine lv_aload_n F.1.1 F.1.2.1 dX7_signalBits_0 rfl (lv_at hl 0 rfl) ?_
  refine lv_aload_n F.1.1 F.1.2.1 dX7_signalBits_1 rfl (lv_at hl 0 rfl) ?_
  refine lv_iload_n F.1.1 F.1.2.1 dX7_signalBits_2 rfl (lv_at hl 1 rfl) ?_
  refine lv_iload_n F.1.1 F.1.2.1 dX7_signalBits_3 rfl (lv_at hl 2 rfl) ?_
  refine lv_iload_n F.1.1 F.1.2.1 dX7_signalBits_4 rfl (lv_at hl 3 rfl) ?_
  refine mc_Va (As := [_, _, _]) F hM (ct_signalRefusal l hd ) (cwV 3 F.1.2.2.2.2 (lw_V q2035 q2037 qs61 q88 q2038) rfl rfl rfl (by decide +kernel) (mRm_ok (by decide) (by decide))) (tM_0 hd) rfl rfl rfl rfl hl.1 rfl (Nat.le_of_ble_eq_true rfl) dX7_signalBits_5 ⟨Nat.le_of_ble_eq_true rfl, Nat.le_of_ble_eq_true rfl⟩ (fun H locs hM => ?_)
  refine tr_put F hd hM 10 (by decide) q1730 rfl rfl rfl (tw_s10 _ _ _) dX7_signalBits_8 (fun H locs hM => ?_)
  refine lv_aload_n F.1.1 F.1.2.1 dX7_signalBits_11 rfl (lv_at hl 0 rfl) ?_
  refine tr_get F hd hM 10 (by decide) q1730 (congrArg (fun z => some (Value.int z)) (va_up_self g 10 _)) dX7_signalBits_12 ?_
  have hkb : kSig r x z u < 2 ^ 31 := Nat.lt_of_le_of_lt (cd3_le _ _ _) (by decide)
  refine mr_ifleN F (tgt := 22) dX7_signalBits_15 (by decide) (by omega) (fun c15 => ?_) (fun c15 => ?_)
  · obtain ⟨⟨⟨d, hd4, rfl⟩, ⟨n, hn4, rfl⟩⟩, hbz, hpn⟩ := cd3_z c15
    have ed := nD_nI (show d < 2 ^ 31 by omega)
    have en := nD_nI (show n < 2 ^ 31 by omega)
    rw [ed] at hpn
    obtain ⟨p0, hp0, hp⟩ := (hpk d hd4).resolve_left hpn
    have ep : nD (r (60 + d)) = p0 := by rw [hp]; exact nD_nI (by omega)
    obtain ⟨c0, hc4, hc⟩ := hI.2.2.2.2.2.1 d hd4
    have ec : nD (r (52 + d)) = c0 := by rw [hc]; exact nD_nI (by omega)
    refine lv_aload_n F.1.1 F.1.2.1 dX7_signalBits_22 rfl (lv_at hl 0 rfl) ?_
    refine lv_iload_n F.1.1 F.1.2.1 dX7_signalBits_23 rfl (lv_at hl 1 rfl) ?_
    refine lv_iload_n F.1.1 F.1.2.1 dX7_signalBits_24 rfl (lv_at hl 2 rfl) ?_
    refine lv_aload_n F.1.1 F.1.2.1 dX7_signalBits_25 rfl (lv_at hl 0 rfl) ?_
    refine tr_get F hd hM 0 (by decide) q1720 rfl dX7_signalBits_26 ?_
    refine mr_bipush F 60 dX7_signalBits_29 (by decide +kernel) ?_
    refine lv_iload_n F.1.1 F.1.2.1 dX7_signalBits_31 rfl (lv_at hl 1 rfl) ?_
    refine mr_iaddN F dX7_signalBits_32 ?_
    refine tr_ld1 F hd hM (by omega) hp dX7_signalBits_33 ?_
    refine lv_aload_n F.1.1 F.1.2.1 dX7_signalBits_34 rfl (lv_at hl 0 rfl) ?_
    refine tr_get F hd hM 0 (by decide) q1720 rfl dX7_signalBits_35 ?_
    refine mr_bipush F 52 dX7_signalBits_38 (by decide +kernel) ?_
    refine lv_iload_n F.1.1 F.1.2.1 dX7_signalBits_40 rfl (lv_at hl 1 rfl) ?_
    refine mr_iaddN F dX7_signalBits_41 ?_
    refine tr_ld1 F hd hM (by omega) hc dX7_signalBits_42 ?_
    refine lv_iload_n F.1.1 F.1.2.1 dX7_signalBits_43 rfl (lv_at hl 3 rfl) ?_
    refine mc_Va (As := [_, _, _, _, _]) F hM (ct_signalOf l hd (by assumption) (by omega) (by omega) (by omega) (by omega) (by assumption)) (cwV 5 F.1.2.2.2.2 (lw_V q1926 q1928 qs54 q88 q1929) rfl rfl rfl (by decide +kernel) (mRm_ok (by decide) (by decide))) (tM_0 hd) rfl rfl rfl rfl hl.1 rfl (Nat.le_of_ble_eq_true rfl) dX7_signalBits_44 ⟨Nat.le_of_ble_eq_true rfl, Nat.le_of_ble_eq_true rfl⟩ (fun H locs hM => ?_)
    refine mc_Sa (As := [_]) F hM (ct_floatToIntBits l ) (va_cwS 1 F.1.2.2.2.2 (lw_S q2043 q1589 q102 q1590) rfl rfl rfl (by decide +kernel) (mRm_ok (by decide) (by decide))) rfl rfl hl.1 rfl (Nat.le_of_ble_eq_true rfl) dX7_signalBits_47 ⟨Nat.le_of_ble_eq_true rfl, Nat.le_of_ble_eq_true rfl⟩ (fun H locs hM => ?_)
    exact mr_iret F hQ hM (by first | exact Or.inr ⟨c15, by simp only [ed, en, ep, ec], by rw [c15]⟩ | exact Or.inl ⟨c15, rfl, rfl⟩) (Nat.le_of_ble_eq_true rfl) (Nat.le_of_ble_eq_true rfl) dX7_signalBits_50
  · refine mr_iconst F 0 dX7_signalBits_18 (by decide +kernel) ?_
    refine lv_goto (tgt := 50) F.1.1 F.1.2.1 dX7_signalBits_19 (by decide) ?_
    exact mr_iret F hQ hM (by first | exact Or.inr ⟨c15, by simp only [ed, en, ep, ec], by rw [c15]⟩ | exact Or.inl ⟨c15, rfl, rfl⟩) (Nat.le_of_ble_eq_true rfl) (Nat.le_of_ble_eq_true rfl) dX7_signalBits_50
set_option maxHeartbeats 4000000 in
theorem ct_readableBy (l : Launch) {G : mG} {ad : Nat → Nat} {g r : Nat → Int32} {f : Nat → UInt32} {h : tH} {b : Nat → Int32} {M0 : mM} {x z u : Int32} (hd : tAd ad) (hI : mInv r f) : mMet l yX7_readableBy (ws_ yX7_readableBy cX7_readableBy 7 (some .int)) (mRm 5 0 0) [.ref (ad 0), .int x, .int z, .int u] G (pPre (tM G ad g r f h b M0)) (qPost (kTk r x z u) (.int (nI 0)) (.int (mRb r f (nD x) (nD z) (nD u) (nD (r 88)) 4)) (tM G ad (va_up g 10 (nI (kTk r x z u))) r f h b M0) (tM G ad (va_up g 10 (nI 0)) r f h b M0)) := by
  refine mMet.of (by decide +kernel) (Nat.le_of_ble_eq_true rfl) fun p e s m args below meth c A Q M hM0 F hnm hQ hM ls hl => ?_
  have hM0 : M = tM G ad g r f h b M0 := hM0
  subst hM0
  have hl : lv_has ls 7 [(0, .ref (ad 0)), (1, .int x), (2, .int z), (3, .int u)] := hl
  obtain ⟨np, hnp, hnp6, hpk, hun⟩ := hI.1
  have enp : nD (r 89) = np := by rw [hnp]; exact nD_nI (by omega)
  refine lv_aload_n F.1.1 F.1.2.1 dX7_readableBy_0 rfl (lv_at hl 0 rfl) ?_
  refine lv_iload_n F.1.1 F.1.2.1 dX7_readableBy_1 rfl (lv_at hl 1 rfl) ?_
  refine lv_iload_n F.1.1 F.1.2.1 dX7_readableBy_2 rfl (lv_at hl 2 rfl) ?_
  refine lv_iload_n F.1.1 F.1.2.1 dX7_readableBy_3 rfl (lv_at hl 3 rfl) ?_
  refine mc_V (As := [_, _, _]) F hM (ct_trackAt l hd (by assumption)) (cwV 3 F.1.2.2.2.2 (lw_V q2015 q2017 qs60 q88 q2018) rfl rfl rfl (by decide +kernel) (mRm_ok (by decide) (by decide))) rfl (tM_0 hd) rfl rfl rfl hl.1 rfl (Nat.le_of_ble_eq_true rfl) dX7_readableBy_4 ⟨Nat.le_of_ble_eq_true rfl, Nat.le_of_ble_eq_true rfl⟩ (fun ρ4 M1 H locs hP hM _ => ?_)
  rcases hP with ⟨k4, rfl, rfl⟩ | ⟨k4, rfl, rfl⟩
  · have hv : kTk r x z u = 1 := by
      unfold kTk at k4 ⊢
      exact cd1_1 (fun q => k4 (cd1_0 q))
    refine lv_istore (lv' := [(4, _), (0, _), (1, _), (2, _), (3, _)]) F.1.1 F.1.2.1 dX7_readableBy_7 hl (by decide) rfl (fun ls hl => ?_)
    refine lv_iload F.1.1 F.1.2.1 dX7_readableBy_9 (lv_at hl 0 rfl) ?_
    refine lv_iconst (v := -1) F.1.1 F.1.2.1 dX7_readableBy_11 (by decide +kernel) ?_
    refine lv_icmp_ne (tgt := 17) F.1.1 F.1.2.1 dX7_readableBy_12 (by decide) (fun c12 => ?_) (fun c12 => ?_)
    · exact absurd rfl c12
    · refine mr_iconst F 0 dX7_readableBy_15 (by decide +kernel) ?_
      exact mr_iret F hQ hM (by first | exact Or.inl ⟨k4, rfl, by rw [hv]⟩ | exact Or.inr ⟨k4, by simp only [ed, en, eu, et], rfl⟩) (Nat.le_of_ble_eq_true rfl) (Nat.le_of_ble_eq_true rfl) dX7_readableBy_16
  · have hb : 40 * (3 * nD x + nD z) + nD u < 720 := by
      obtain ⟨⟨d, h1, rfl⟩, ⟨n, h2, rfl⟩, ⟨q0, h3, rfl⟩⟩ := cd1_z k4
      rw [enp] at h1
      rw [nD_nI (show d < 2 ^ 31 by omega), nD_nI (show n < 2 ^ 31 by omega), nD_nI (show q0 < 2 ^ 31 by omega)]
      omega
    refine lv_istore (lv' := [(4, _), (0, _), (1, _), (2, _), (3, _)]) F.1.1 F.1.2.1 dX7_readableBy_7 hl (by decide) rfl (fun ls hl => ?_)
    refine lv_iload F.1.1 F.1.2.1 dX7_readableBy_9 (lv_at hl 0 rfl) ?_
    refine lv_iconst (v := -1) F.1.1 F.1.2.1 dX7_readableBy_11 (by decide +kernel) ?_
    refine lv_icmp_ne (tgt := 17) F.1.1 F.1.2.1 dX7_readableBy_12 (by decide) (fun c12 => ?_) (fun c12 => ?_)
    · obtain ⟨⟨d, hd4, rfl⟩, ⟨n, hn4, rfl⟩, ⟨q0, hq4, rfl⟩⟩ := cd1_z k4
      rw [enp] at hd4
      have ed := nD_nI (show d < 2 ^ 31 by omega)
      have en := nD_nI (show n < 2 ^ 31 by omega)
      have eu := nD_nI (show q0 < 2 ^ 31 by omega)
      obtain ⟨t, ht, ht8⟩ := hI.2.1
      have et : nD (r 88) = t := by rw [ht]; exact nD_nI (by omega)
      refine mr_iconst F 0 dX7_readableBy_17 (by decide +kernel) ?_
      refine lv_istore (lv' := [(5, _), (4, _), (0, _), (1, _), (2, _), (3, _)]) F.1.1 F.1.2.1 dX7_readableBy_18 hl (by decide) rfl (fun ls hl => ?_)
      refine mr_iconst F 0 dX7_readableBy_20 (by decide +kernel) ?_
      refine lv_istore (lv' := [(6, _), (5, _), (4, _), (0, _), (1, _), (2, _), (3, _)]) F.1.1 F.1.2.1 dX7_readableBy_21 hl (by decide) rfl (fun ls hl => ?_)
      have lp : ∀ i k : Nat, k + i = 4 → ∀ (H : Heap) (locs : List Loc), mWd G A s.heap (tM G ad (va_up g 10 (nI 0)) r f h b M0) H locs → ∀ ls : Array Slot, lv_has ls 7 [(6, .int (nI k)), (5, .int (mRb r f d n q0 t k)), (0, .ref (ad 0)), (1, .int (nI d)), (2, .int (nI n)), (3, .int (nI q0))] → W p l e (mRm 5 0 0) s m args below meth c H locs 0 0 Q (F0 m 23 ls []) := by
        intro i
        induction i with
        | zero =>
          intro k hk H locs hM ls hl
          obtain rfl : k = 4 := by omega
          refine lv_iload F.1.1 F.1.2.1 dX7_readableBy_23 (lv_at hl 0 rfl) ?_
          refine mr_iconst F 4 dX7_readableBy_25 (by decide +kernel) ?_
          refine mr_icmp_geN F (tgt := 61) dX7_readableBy_26 (by decide) (by omega) (by omega) (fun c26 => ?_) (fun c26 => ?_)
          · refine lv_iload F.1.1 F.1.2.1 dX7_readableBy_61 (lv_at hl 1 rfl) ?_
            exact mr_iret F hQ hM (by first | exact Or.inl ⟨k4, rfl, by rw [hv]⟩ | exact Or.inr ⟨k4, by simp only [ed, en, eu, et], rfl⟩) (Nat.le_of_ble_eq_true rfl) (Nat.le_of_ble_eq_true rfl) dX7_readableBy_63
          · exact absurd c26 (by omega)
        | succ i ih =>
          intro k hk H locs hM ls hl
          refine lv_iload F.1.1 F.1.2.1 dX7_readableBy_23 (lv_at hl 0 rfl) ?_
          refine mr_iconst F 4 dX7_readableBy_25 (by decide +kernel) ?_
          refine mr_icmp_geN F (tgt := 61) dX7_readableBy_26 (by decide) (by omega) (by omega) (fun c26 => ?_) (fun c26 => ?_)
          · exact absurd c26 (by omega)
          · refine lv_iload F.1.1 F.1.2.1 dX7_readableBy_29 (lv_at hl 1 rfl) ?_
            refine lv_aload_n F.1.1 F.1.2.1 dX7_readableBy_31 rfl (lv_at hl 2 rfl) ?_
            refine lv_iload F.1.1 F.1.2.1 dX7_readableBy_32 (lv_at hl 0 rfl) ?_
            refine lv_iload_n F.1.1 F.1.2.1 dX7_readableBy_34 rfl (lv_at hl 4 rfl) ?_
            refine lv_iload_n F.1.1 F.1.2.1 dX7_readableBy_35 rfl (lv_at hl 3 rfl) ?_
            refine lv_iload_n F.1.1 F.1.2.1 dX7_readableBy_36 rfl (lv_at hl 5 rfl) ?_
            refine mc_Va (As := [_, _, _, _]) F hM (ct_retries l hd (by assumption) (by assumption) (by omega) (by omega) (by omega) (by omega) (by omega)) (cwV 4 F.1.2.2.2.2 (lw_V q1919 q1921 qs53 q88 q1922) rfl rfl rfl (by decide +kernel) (mRm_ok (by decide) (by decide))) (tM_0 hd) rfl rfl rfl rfl hl.1 rfl (Nat.le_of_ble_eq_true rfl) dX7_readableBy_37 ⟨Nat.le_of_ble_eq_true rfl, Nat.le_of_ble_eq_true rfl⟩ (fun H locs hM => ?_)
            refine lv_iconst (v := -1) F.1.1 F.1.2.1 dX7_readableBy_40 (by decide +kernel) ?_
            refine lv_icmp_ne (tgt := 48) F.1.1 F.1.2.1 dX7_readableBy_41 (by decide) (fun c41 => ?_) (fun c41 => ?_)
            · have hw : mRb r f d n q0 t (k + 1) = mRb r f d n q0 t k ||| (nI 1 <<< (nI k &&& 31)) := by
                show mRb r f d n q0 t k ||| _ = _
                rw [if_neg c41]
              refine mr_iconst F 1 dX7_readableBy_48 (by decide +kernel) ?_
              refine lv_iload F.1.1 F.1.2.1 dX7_readableBy_49 (lv_at hl 0 rfl) ?_
              refine lv_ishl F.1.1 F.1.2.1 dX7_readableBy_51 ?_
              refine lv_ior F.1.1 F.1.2.1 dX7_readableBy_52 ?_
              refine lv_istore (lv' := [(5, _), (6, _), (0, _), (1, _), (2, _), (3, _)]) F.1.1 F.1.2.1 dX7_readableBy_53 hl (by decide) rfl (fun ls hl => ?_)
              refine lv_iinc (lv' := [(6, _), (5, _), (0, _), (1, _), (2, _), (3, _)]) F.1.1 F.1.2.1 dX7_readableBy_55 hl (k := 1) rfl (nK_add _ 1) (by decide) rfl (fun ls hl => ?_)
              refine lv_goto (tgt := 23) F.1.1 F.1.2.1 dX7_readableBy_58 (by decide) ?_
              exact ih (k + 1) (by omega) _ _ hM _ (by rw [hw]; exact lv_sub hl [0, 1, 2, 3, 4, 5] rfl)
            · have hw : mRb r f d n q0 t (k + 1) = mRb r f d n q0 t k ||| nI 0 := by
                show mRb r f d n q0 t k ||| _ = _
                rw [if_pos c41]
              refine mr_iconst F 0 dX7_readableBy_44 (by decide +kernel) ?_
              refine lv_goto (tgt := 52) F.1.1 F.1.2.1 dX7_readableBy_45 (by decide) ?_
              refine lv_ior F.1.1 F.1.2.1 dX7_readableBy_52 ?_
              refine lv_istore (lv' := [(5, _), (6, _), (0, _), (1, _), (2, _), (3, _)]) F.1.1 F.1.2.1 dX7_readableBy_53 hl (by decide) rfl (fun ls hl => ?_)
              refine lv_iinc (lv' := [(6, _), (5, _), (0, _), (1, _), (2, _), (3, _)]) F.1.1 F.1.2.1 dX7_readableBy_55 hl (k := 1) rfl (nK_add _ 1) (by decide) rfl (fun ls hl => ?_)
              refine lv_goto (tgt := 23) F.1.1 F.1.2.1 dX7_readableBy_58 (by decide) ?_
              exact ih (k + 1) (by omega) _ _ hM _ (by rw [hw]; exact lv_sub hl [0, 1, 2, 3, 4, 5] rfl)
      exact lp 4 0 rfl _ _ hM _ (lv_sub hl [0, 1, 3, 4, 5, 6] rfl)
    · exact absurd c12 (m1_ne_nI (by omega))
set_option maxHeartbeats 4000000 in
theorem ct_readableIn (l : Launch) {G : mG} {ad : Nat → Nat} {g r : Nat → Int32} {f : Nat → UInt32} {h : tH} {b : Nat → Int32} {M0 : mM} {x z : Int32} (hd : tAd ad) (hI : mInv r f) : mMet l yX7_readableIn (ws_ yX7_readableIn cX7_readableIn 6 (some .int)) (mRm 5 0 0) [.ref (ad 0), .int x, .int z] G (pPre (tM G ad g r f h b M0)) (qPost (kDp r x z) (.int (nI 0)) (.int (mRi r f (nD x) (nD z) (nD (r 88)) 3 0)) (tM G ad (va_up g 10 (nI (kDp r x z))) r f h b M0) (tM G ad (va_up g 10 (nI 0)) r f h b M0)) := by
  refine mMet.of (by decide +kernel) (Nat.le_of_ble_eq_true rfl) fun p e s m args below meth c A Q M hM0 F hnm hQ hM ls hl => ?_
  have hM0 : M = tM G ad g r f h b M0 := hM0
  subst hM0
  have hl : lv_has ls 6 [(0, .ref (ad 0)), (1, .int x), (2, .int z)] := hl
  obtain ⟨np, hnp, hnp6, hpk, hun⟩ := hI.1
  have enp : nD (r 89) = np := by rw [hnp]; exact nD_nI (by omega)
  refine lv_aload_n F.1.1 F.1.2.1 dX7_readableIn_0 rfl (lv_at hl 0 rfl) ?_
  refine mr_iconst F 0 dX7_readableIn_1 (by decide +kernel) ?_
  refine tr_put F hd hM 10 (by decide) q1730 rfl rfl rfl (tw_s10 _ _ _) dX7_readableIn_2 (fun H locs hM => ?_)
  refine lv_iload_n F.1.1 F.1.2.1 dX7_readableIn_5 rfl (lv_at hl 1 rfl) ?_
  refine mc_Sa (As := [_]) F hM (ct_isDrive l ) (va_cwS 1 F.1.2.2.2.2 (lw_S q1780 q1781 q88 q1782) rfl rfl rfl (by decide +kernel) (mRm_ok (by decide) (by decide))) rfl rfl hl.1 rfl (Nat.le_of_ble_eq_true rfl) dX7_readableIn_6 ⟨Nat.le_of_ble_eq_true rfl, Nat.le_of_ble_eq_true rfl⟩ (fun H locs hM => ?_)
  refine mr_ifeqB F (tgt := 20) dX7_readableIn_9 (by decide) (fun c9 => ?_) (fun c9 => ?_)
  · have hv : kDp r x z = 1 := by unfold kDp; exact cd1_1 (fun q => c9 q.1)
    refine lv_aload_n F.1.1 F.1.2.1 dX7_readableIn_20 rfl (lv_at hl 0 rfl) ?_
    refine mr_iconst F 1 dX7_readableIn_21 (by decide +kernel) ?_
    refine mc_Va (As := [_]) F hM (ct_fails l hd ) (cwV 1 F.1.2.2.2.2 (lw_V q1789 q1791 qs34 q88 q1792) rfl rfl rfl (by decide +kernel) (mRm_ok (by decide) (by decide))) (tM_0 hd) rfl rfl rfl rfl hl.1 rfl (Nat.le_of_ble_eq_true rfl) dX7_readableIn_22 ⟨Nat.le_of_ble_eq_true rfl, Nat.le_of_ble_eq_true rfl⟩ (fun H locs hM => ?_)
    exact mr_iret F hQ hM (by first | exact Or.inl ⟨by rw [hv]; decide, rfl, by rw [hv, bx_uu]⟩ | exact Or.inr ⟨hv, by simp only [ed, en, et], rfl⟩) (Nat.le_of_ble_eq_true rfl) (Nat.le_of_ble_eq_true rfl) dX7_readableIn_25
  · refine lv_aload_n F.1.1 F.1.2.1 dX7_readableIn_12 rfl (lv_at hl 0 rfl) ?_
    refine lv_iload_n F.1.1 F.1.2.1 dX7_readableIn_13 rfl (lv_at hl 2 rfl) ?_
    refine mc_Va (As := [_]) F hM (ct_isPack l hd (by assumption) (by omega)) (cwV 1 F.1.2.2.2.2 (lw_V q1832 q1834 qs40 q88 q1835) rfl rfl rfl (by decide +kernel) (mRm_ok (by decide) (by decide))) (tM_0 hd) rfl rfl rfl rfl hl.1 rfl (Nat.le_of_ble_eq_true rfl) dX7_readableIn_14 ⟨Nat.le_of_ble_eq_true rfl, Nat.le_of_ble_eq_true rfl⟩ (fun H locs hM => ?_)
    refine mr_ifneB F (tgt := 26) dX7_readableIn_17 (by decide) (fun c17 => ?_) (fun c17 => ?_)
    · have hv : kDp r x z = 0 := by unfold kDp; rw [enp]; exact cd1_0 ⟨c9, c17⟩
      obtain ⟨d, hd4, rfl⟩ := c9
      obtain ⟨n, hn4, rfl⟩ := c17
      have ed := nD_nI (show d < 2 ^ 31 by omega)
      have en := nD_nI (show n < 2 ^ 31 by omega)
      obtain ⟨t, ht, ht8⟩ := hI.2.1
      have et : nD (r 88) = t := by rw [ht]; exact nD_nI (by omega)
      refine mr_iconst F 0 dX7_readableIn_26 (by decide +kernel) ?_
      refine lv_istore_n (lv' := [(3, _), (0, _), (1, _), (2, _)]) F.1.1 F.1.2.1 dX7_readableIn_27 rfl hl (by decide) rfl (fun ls hl => ?_)
      refine mr_iconst F 0 dX7_readableIn_28 (by decide +kernel) ?_
      refine lv_istore (lv' := [(4, _), (3, _), (0, _), (1, _), (2, _)]) F.1.1 F.1.2.1 dX7_readableIn_29 hl (by decide) rfl (fun ls hl => ?_)
      have lo : ∀ i k : Nat, k + i = 3 → ∀ (H : Heap) (locs : List Loc), mWd G A s.heap (tM G ad (va_up g 10 (nI 0)) r f h b M0) H locs → ∀ ls : Array Slot, lv_has ls 6 [(4, .int (nI k)), (3, .int (mRi r f d n t k 0)), (0, .ref (ad 0)), (1, .int (nI d)), (2, .int (nI n))] → W p l e (mRm 5 0 0) s m args below meth c H locs 0 0 Q (F0 m 31 ls []) := by
        intro i
        induction i with
        | zero =>
          intro k hk H locs hM ls hl
          obtain rfl : k = 3 := by omega
          refine lv_iload F.1.1 F.1.2.1 dX7_readableIn_31 (lv_at hl 0 rfl) ?_
          refine mr_iconst F 3 dX7_readableIn_33 (by decide +kernel) ?_
          refine mr_icmp_geN F (tgt := 81) dX7_readableIn_34 (by decide) (by omega) (by omega) (fun c34 => ?_) (fun c34 => ?_)
          · refine lv_iload_n F.1.1 F.1.2.1 dX7_readableIn_81 rfl (lv_at hl 1 rfl) ?_
            exact mr_iret F hQ hM (by first | exact Or.inl ⟨by rw [hv]; decide, rfl, by rw [hv, bx_uu]⟩ | exact Or.inr ⟨hv, by simp only [ed, en, et], rfl⟩) (Nat.le_of_ble_eq_true rfl) (Nat.le_of_ble_eq_true rfl) dX7_readableIn_82
          · exact absurd c34 (by omega)
        | succ i ih =>
          intro k hk H locs hM ls hl
          refine lv_iload F.1.1 F.1.2.1 dX7_readableIn_31 (lv_at hl 0 rfl) ?_
          refine mr_iconst F 3 dX7_readableIn_33 (by decide +kernel) ?_
          refine mr_icmp_geN F (tgt := 81) dX7_readableIn_34 (by decide) (by omega) (by omega) (fun c34 => ?_) (fun c34 => ?_)
          · exact absurd c34 (by omega)
          · refine mr_iconst F 0 dX7_readableIn_37 (by decide +kernel) ?_
            refine lv_istore (lv' := [(5, _), (4, _), (3, _), (0, _), (1, _), (2, _)]) F.1.1 F.1.2.1 dX7_readableIn_38 hl (by decide) rfl (fun ls hl => ?_)
            have li : ∀ i2 k2 : Nat, k2 + i2 = 40 → ∀ (H : Heap) (locs : List Loc), mWd G A s.heap (tM G ad (va_up g 10 (nI 0)) r f h b M0) H locs → ∀ ls : Array Slot, lv_has ls 6 [(5, .int (nI k2)), (3, .int (mRi r f d n t k k2)), (4, .int (nI k)), (0, .ref (ad 0)), (1, .int (nI d)), (2, .int (nI n))] → W p l e (mRm 5 0 0) s m args below meth c H locs 0 0 Q (F0 m 40 ls []) := by
              intro i2
              induction i2 with
              | zero =>
                intro k2 hk2 H locs hM ls hl
                obtain rfl : k2 = 40 := by omega
                refine lv_iload F.1.1 F.1.2.1 dX7_readableIn_40 (lv_at hl 0 rfl) ?_
                refine mr_bipush F 40 dX7_readableIn_42 (by decide +kernel) ?_
                refine mr_icmp_geN F (tgt := 75) dX7_readableIn_44 (by decide) (by omega) (by omega) (fun c44 => ?_) (fun c44 => ?_)
                · refine lv_iinc (lv' := [(4, _), (5, _), (3, _), (0, _), (1, _), (2, _)]) F.1.1 F.1.2.1 dX7_readableIn_75 hl (k := 2) rfl (nK_add _ 1) (by decide) rfl (fun ls hl => ?_)
                  refine lv_goto (tgt := 31) F.1.1 F.1.2.1 dX7_readableIn_78 (by decide) ?_
                  exact ih (k + 1) (by omega) _ _ hM _ (by rw [mRi_next]; exact lv_sub hl [0, 2, 3, 4, 5] rfl)
                · exact absurd c44 (by omega)
              | succ i2 ih2 =>
                intro k2 hk2 H locs hM ls hl
                refine lv_iload F.1.1 F.1.2.1 dX7_readableIn_40 (lv_at hl 0 rfl) ?_
                refine mr_bipush F 40 dX7_readableIn_42 (by decide +kernel) ?_
                refine mr_icmp_geN F (tgt := 75) dX7_readableIn_44 (by decide) (by omega) (by omega) (fun c44 => ?_) (fun c44 => ?_)
                · exact absurd c44 (by omega)
                · refine lv_iload_n F.1.1 F.1.2.1 dX7_readableIn_47 rfl (lv_at hl 1 rfl) ?_
                  refine lv_aload_n F.1.1 F.1.2.1 dX7_readableIn_48 rfl (lv_at hl 3 rfl) ?_
                  refine lv_iload_n F.1.1 F.1.2.1 dX7_readableIn_49 rfl (lv_at hl 4 rfl) ?_
                  refine lv_iload F.1.1 F.1.2.1 dX7_readableIn_50 (lv_at hl 2 rfl) ?_
                  refine lv_iload_n F.1.1 F.1.2.1 dX7_readableIn_52 rfl (lv_at hl 5 rfl) ?_
                  refine lv_iload F.1.1 F.1.2.1 dX7_readableIn_53 (lv_at hl 0 rfl) ?_
                  refine mc_Va (As := [_, _, _, _]) F hM (ct_retries l hd (by assumption) (by assumption) (by omega) (by omega) (by omega) (by omega) (by omega)) (cwV 4 F.1.2.2.2.2 (lw_V q1919 q1921 qs53 q88 q1922) rfl rfl rfl (by decide +kernel) (mRm_ok (by decide) (by decide))) (tM_0 hd) rfl rfl rfl rfl hl.1 rfl (Nat.le_of_ble_eq_true rfl) dX7_readableIn_55 ⟨Nat.le_of_ble_eq_true rfl, Nat.le_of_ble_eq_true rfl⟩ (fun H locs hM => ?_)
                  refine lv_iconst (v := -1) F.1.1 F.1.2.1 dX7_readableIn_58 (by decide +kernel) ?_
                  refine lv_icmp_ne (tgt := 66) F.1.1 F.1.2.1 dX7_readableIn_59 (by decide) (fun c59 => ?_) (fun c59 => ?_)
                  · have hw : mRi r f d n t k (k2 + 1) = mRi r f d n t k k2 + nI 1 := by
                      rw [mRi_step, if_neg c59]
                    refine mr_iconst F 1 dX7_readableIn_66 (by decide +kernel) ?_
                    refine lv_iadd F.1.1 F.1.2.1 dX7_readableIn_67 ?_
                    refine lv_istore_n (lv' := [(3, _), (5, _), (4, _), (0, _), (1, _), (2, _)]) F.1.1 F.1.2.1 dX7_readableIn_68 rfl hl (by decide) rfl (fun ls hl => ?_)
                    refine lv_iinc (lv' := [(5, _), (3, _), (4, _), (0, _), (1, _), (2, _)]) F.1.1 F.1.2.1 dX7_readableIn_69 hl (k := 1) rfl (nK_add _ 1) (by decide) rfl (fun ls hl => ?_)
                    refine lv_goto (tgt := 40) F.1.1 F.1.2.1 dX7_readableIn_72 (by decide) ?_
                    exact ih2 (k2 + 1) (by omega) _ _ hM _ (by rw [hw]; exact lv_sub hl [0, 1, 2, 3, 4, 5] rfl)
                  · have hw : mRi r f d n t k (k2 + 1) = mRi r f d n t k k2 + nI 0 := by
                      rw [mRi_step, if_pos c59]
                    refine mr_iconst F 0 dX7_readableIn_62 (by decide +kernel) ?_
                    refine lv_goto (tgt := 67) F.1.1 F.1.2.1 dX7_readableIn_63 (by decide) ?_
                    refine lv_iadd F.1.1 F.1.2.1 dX7_readableIn_67 ?_
                    refine lv_istore_n (lv' := [(3, _), (5, _), (4, _), (0, _), (1, _), (2, _)]) F.1.1 F.1.2.1 dX7_readableIn_68 rfl hl (by decide) rfl (fun ls hl => ?_)
                    refine lv_iinc (lv' := [(5, _), (3, _), (4, _), (0, _), (1, _), (2, _)]) F.1.1 F.1.2.1 dX7_readableIn_69 hl (k := 1) rfl (nK_add _ 1) (by decide) rfl (fun ls hl => ?_)
                    refine lv_goto (tgt := 40) F.1.1 F.1.2.1 dX7_readableIn_72 (by decide) ?_
                    exact ih2 (k2 + 1) (by omega) _ _ hM _ (by rw [hw]; exact lv_sub hl [0, 1, 2, 3, 4, 5] rfl)
            exact li 40 0 rfl _ _ hM _ (lv_sub hl [0, 2, 1, 3, 4, 5] rfl)
      exact lo 3 0 rfl _ _ hM _ (lv_sub hl [0, 1, 2, 3, 4] rfl)
    · have hv : kDp r x z = 1 := by unfold kDp; rw [enp]; exact cd1_1 (fun q => c17 q.2)
      refine lv_aload_n F.1.1 F.1.2.1 dX7_readableIn_20 rfl (lv_at hl 0 rfl) ?_
      refine mr_iconst F 1 dX7_readableIn_21 (by decide +kernel) ?_
      refine mc_Va (As := [_]) F hM (ct_fails l hd ) (cwV 1 F.1.2.2.2.2 (lw_V q1789 q1791 qs34 q88 q1792) rfl rfl rfl (by decide +kernel) (mRm_ok (by decide) (by decide))) (tM_0 hd) rfl rfl rfl rfl hl.1 rfl (Nat.le_of_ble_eq_true rfl) dX7_readableIn_22 ⟨Nat.le_of_ble_eq_true rfl, Nat.le_of_ble_eq_true rfl⟩ (fun H locs hM => ?_)
      exact mr_iret F hQ hM (by first | exact Or.inl ⟨by rw [hv]; decide, rfl, by rw [hv, bx_uu]⟩ | exact Or.inr ⟨hv, by simp only [ed, en, et], rfl⟩) (Nat.le_of_ble_eq_true rfl) (Nat.le_of_ble_eq_true rfl) dX7_readableIn_25
set_option maxHeartbeats 4000000 in
theorem ct_meanRetries (l : Launch) {G : mG} {ad : Nat → Nat} {g r : Nat → Int32} {f : Nat → UInt32} {h : tH} {b : Nat → Int32} {M0 : mM}  (hd : tAd ad) : mMet l yX7_meanRetries (ws_ yX7_meanRetries cX7_meanRetries 2 (some .double)) (mRm 2 0 0) [.ref (ad 0)] G (pPre (tM G ad g r f h b M0)) (pPost (tM G ad (va_up g 10 (nI 0)) r f h b M0) (some (.double (mMn r)))) := by
  refine mMet.of (by decide +kernel) (Nat.le_of_ble_eq_true rfl) fun p e s m args below meth c A Q M hM0 F hnm hQ hM ls hl => ?_
  have hM0 : M = tM G ad g r f h b M0 := hM0
  subst hM0
  have hl : lv_has ls 2 [(0, .ref (ad 0))] := hl
  refine lv_aload_n F.1.1 F.1.2.1 dX7_meanRetries_0 rfl (lv_at hl 0 rfl) ?_
  refine mr_iconst F 0 dX7_meanRetries_1 (by decide +kernel) ?_
  refine tr_put F hd hM 10 (by decide) q1730 rfl rfl rfl (tw_s10 _ _ _) dX7_meanRetries_2 (fun H locs hM => ?_)
  refine lv_aload_n F.1.1 F.1.2.1 dX7_meanRetries_5 rfl (lv_at hl 0 rfl) ?_
  refine tr_get F hd hM 0 (by decide) q1720 rfl dX7_meanRetries_6 ?_
  refine mr_bipush F 114 dX7_meanRetries_9 (by decide +kernel) ?_
  refine tr_ld1 F hd hM (by omega) rfl dX7_meanRetries_11 ?_
  refine lv_aload_n F.1.1 F.1.2.1 dX7_meanRetries_12 rfl (lv_at hl 0 rfl) ?_
  refine tr_get F hd hM 0 (by decide) q1720 rfl dX7_meanRetries_13 ?_
  refine mr_bipush F 115 dX7_meanRetries_16 (by decide +kernel) ?_
  refine tr_ld1 F hd hM (by omega) rfl dX7_meanRetries_18 ?_
  refine lv_iadd F.1.1 F.1.2.1 dX7_meanRetries_19 ?_
  refine lv_istore_n (lv' := [(1, _), (0, _)]) F.1.1 F.1.2.1 dX7_meanRetries_20 rfl hl (by decide) rfl (fun ls hl => ?_)
  refine lv_iload_n F.1.1 F.1.2.1 dX7_meanRetries_21 rfl (lv_at hl 0 rfl) ?_
  refine lv_if_ne (tgt := 29) F.1.1 F.1.2.1 dX7_meanRetries_22 (by decide) (fun c22 => ?_) (fun c22 => ?_)
  · have hv : mMn r = FP.ddiv (FP.i2d (mSm r 116 4)) (FP.i2d (r 114 + r 115)) := if_neg c22
    refine lv_aload_n F.1.1 F.1.2.1 dX7_meanRetries_29 rfl (lv_at hl 1 rfl) ?_
    refine mr_bipush F 116 dX7_meanRetries_30 (by decide +kernel) ?_
    refine mr_bipush F 120 dX7_meanRetries_32 (by decide +kernel) ?_
    refine mc_Va (As := [_, _]) F hM (ct_sum l hd (a0 := 116) (n0 := 4) (by omega)) (cwV 2 F.1.2.2.2.2 (lw_V q2077 q2079 qs62 q88 q2080) rfl rfl rfl (by decide +kernel) (mRm_ok (by decide) (by decide))) (tM_0 hd) rfl rfl rfl rfl hl.1 rfl (Nat.le_of_ble_eq_true rfl) dX7_meanRetries_34 ⟨Nat.le_of_ble_eq_true rfl, Nat.le_of_ble_eq_true rfl⟩ (fun H locs hM => ?_)
    refine lv_i2d F.1.1 F.1.2.1 dX7_meanRetries_37 ?_
    refine lv_iload_n F.1.1 F.1.2.1 dX7_meanRetries_38 rfl (lv_at hl 0 rfl) ?_
    refine lv_i2d F.1.1 F.1.2.1 dX7_meanRetries_39 ?_
    refine lv_ddiv F.1.1 F.1.2.1 dX7_meanRetries_40 (fd_ok c22) ?_
    exact mr_dret F hQ hM ⟨by rw [hv], rfl⟩ (Nat.le_of_ble_eq_true rfl) (Nat.le_of_ble_eq_true rfl) dX7_meanRetries_41
  · have hv : mMn r = FP.dconst0 := if_pos c22
    refine lv_dconst0 F.1.1 F.1.2.1 dX7_meanRetries_25 ?_
    refine lv_goto (tgt := 41) F.1.1 F.1.2.1 dX7_meanRetries_26 (by decide) ?_
    exact mr_dret F hQ hM ⟨by rw [hv], rfl⟩ (Nat.le_of_ble_eq_true rfl) (Nat.le_of_ble_eq_true rfl) dX7_meanRetries_41
