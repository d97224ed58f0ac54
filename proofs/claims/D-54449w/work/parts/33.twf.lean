/-! THE REFERENCE: what it tells, further -/
set_option maxHeartbeats 4000000 in
theorem ct_valueOf (l : Launch) {G : mG} {ad : Nat → Nat} {g r : Nat → Int32} {f : Nat → UInt32} {h : tH} {b : Nat → Int32} {M0 : mM} {x z u : Int32} (hd : tAd ad) (hI : mInv r f) : mMet l yX7_valueOf (ws_ yX7_valueOf cX7_valueOf 5 (some .int)) (mRm 4 0 0) [.ref (ad 0), .int x, .int z, .int u] G (pPre (tM G ad g r f h b M0)) (qPost (kTk r x z u) (.int (nI 0)) (.int (r (126 + (40 * (3 * nD x + nD z) + nD u)))) (tM G ad (va_up g 10 (nI (kTk r x z u))) r f h b M0) (tM G ad (va_up g 10 (nI 0)) r f h b M0)) := by
  refine mMet.of (by decide +kernel) (Nat.le_of_ble_eq_true rfl) fun p e s m args below meth c A Q M hM0 F hnm hQ hM ls hl => ?_
  have hM0 : M = tM G ad g r f h b M0 := hM0
  subst hM0
  have hl : lv_has ls 5 [(0, .ref (ad 0)), (1, .int x), (2, .int z), (3, .int u)] := hl
  obtain ⟨np, hnp, hnp6, hpk, hun⟩ := hI.1
  have enp : nD (r 89) = np := by rw [hnp]; exact nD_nI (by omega)
  refine lv_aload_n F.1.1 F.1.2.1 dX7_valueOf_0 rfl (lv_at hl 0 rfl) ?_
  refine lv_iload_n F.1.1 F.1.2.1 dX7_valueOf_1 rfl (lv_at hl 1 rfl) ?_
  refine lv_iload_n F.1.1 F.1.2.1 dX7_valueOf_2 rfl (lv_at hl 2 rfl) ?_
  refine lv_iload_n F.1.1 F.1.2.1 dX7_valueOf_3 rfl (lv_at hl 3 rfl) ?_
  refine mc_V (As := [_, _, _]) F hM (ct_trackAt l hd (by assumption)) (cwV 3 F.1.2.2.2.2 (lw_V q2015 q2017 qs60 q88 q2018) rfl rfl rfl (by decide +kernel) (mRm_ok (by decide) (by decide))) rfl (tM_0 hd) rfl rfl rfl hl.1 rfl (Nat.le_of_ble_eq_true rfl) dX7_valueOf_4 ⟨Nat.le_of_ble_eq_true rfl, Nat.le_of_ble_eq_true rfl⟩ (fun ρ4 M1 H locs hP hM _ => ?_)
  rcases hP with ⟨k4, rfl, rfl⟩ | ⟨k4, rfl, rfl⟩
  · have hv : kTk r x z u = 1 := by
      unfold kTk at k4 ⊢
      exact cd1_1 (fun q => k4 (cd1_0 q))
    refine lv_istore (lv' := [(4, _), (0, _), (1, _), (2, _), (3, _)]) F.1.1 F.1.2.1 dX7_valueOf_7 hl (by decide) rfl (fun ls hl => ?_)
    refine lv_iload F.1.1 F.1.2.1 dX7_valueOf_9 (lv_at hl 0 rfl) ?_
    refine lv_iconst (v := -1) F.1.1 F.1.2.1 dX7_valueOf_11 (by decide +kernel) ?_
    refine lv_icmp_ne (tgt := 19) F.1.1 F.1.2.1 dX7_valueOf_12 (by decide) (fun c12 => ?_) (fun c12 => ?_)
    · exact absurd rfl c12
    · refine mr_iconst F 0 dX7_valueOf_15 (by decide +kernel) ?_
      refine lv_goto (tgt := 29) F.1.1 F.1.2.1 dX7_valueOf_16 (by decide) ?_
      exact mr_iret F hQ hM (by first | exact Or.inl ⟨k4, rfl, by rw [hv]⟩ | exact Or.inr ⟨k4, rfl, rfl⟩) (Nat.le_of_ble_eq_true rfl) (Nat.le_of_ble_eq_true rfl) dX7_valueOf_29
  · have hb : 40 * (3 * nD x + nD z) + nD u < 720 := by
      obtain ⟨⟨d, h1, rfl⟩, ⟨n, h2, rfl⟩, ⟨q0, h3, rfl⟩⟩ := cd1_z k4
      rw [enp] at h1
      rw [nD_nI (show d < 2 ^ 31 by omega), nD_nI (show n < 2 ^ 31 by omega), nD_nI (show q0 < 2 ^ 31 by omega)]
      omega
    refine lv_istore (lv' := [(4, _), (0, _), (1, _), (2, _), (3, _)]) F.1.1 F.1.2.1 dX7_valueOf_7 hl (by decide) rfl (fun ls hl => ?_)
    refine lv_iload F.1.1 F.1.2.1 dX7_valueOf_9 (lv_at hl 0 rfl) ?_
    refine lv_iconst (v := -1) F.1.1 F.1.2.1 dX7_valueOf_11 (by decide +kernel) ?_
    refine lv_icmp_ne (tgt := 19) F.1.1 F.1.2.1 dX7_valueOf_12 (by decide) (fun c12 => ?_) (fun c12 => ?_)
    · refine lv_aload_n F.1.1 F.1.2.1 dX7_valueOf_19 rfl (lv_at hl 1 rfl) ?_
      refine tr_get F hd hM 0 (by decide) q1720 rfl dX7_valueOf_20 ?_
      refine mr_bipush F 126 dX7_valueOf_23 (by decide +kernel) ?_
      refine lv_iload F.1.1 F.1.2.1 dX7_valueOf_25 (lv_at hl 0 rfl) ?_
      refine mr_iaddN F dX7_valueOf_27 ?_
      refine tr_ld1 F hd hM (by omega) rfl dX7_valueOf_28 ?_
      exact mr_iret F hQ hM (by first | exact Or.inl ⟨k4, rfl, by rw [hv]⟩ | exact Or.inr ⟨k4, rfl, rfl⟩) (Nat.le_of_ble_eq_true rfl) (Nat.le_of_ble_eq_true rfl) dX7_valueOf_29
    · exact absurd c12 (m1_ne_nI (by omega))
set_option maxHeartbeats 4000000 in
theorem ct_strengthOf (l : Launch) {G : mG} {ad : Nat → Nat} {g r : Nat → Int32} {f : Nat → UInt32} {h : tH} {b : Nat → Int32} {M0 : mM} {x z u : Int32} (hd : tAd ad) (hI : mInv r f) : mMet l yX7_strengthOf (ws_ yX7_strengthOf cX7_strengthOf 5 (some .float)) (mRm 4 0 0) [.ref (ad 0), .int x, .int z, .int u] G (pPre (tM G ad g r f h b M0)) (qPost (kTk r x z u) (.float FP.fconst0) (.float (f (40 * (3 * nD x + nD z) + nD u))) (tM G ad (va_up g 10 (nI (kTk r x z u))) r f h b M0) (tM G ad (va_up g 10 (nI 0)) r f h b M0)) := by
  refine mMet.of (by decide +kernel) (Nat.le_of_ble_eq_true rfl) fun p e s m args below meth c A Q M hM0 F hnm hQ hM ls hl => ?_
  have hM0 : M = tM G ad g r f h b M0 := hM0
  subst hM0
  have hl : lv_has ls 5 [(0, .ref (ad 0)), (1, .int x), (2, .int z), (3, .int u)] := hl
  obtain ⟨np, hnp, hnp6, hpk, hun⟩ := hI.1
  have enp : nD (r 89) = np := by rw [hnp]; exact nD_nI (by omega)
  refine lv_aload_n F.1.1 F.1.2.1 dX7_strengthOf_0 rfl (lv_at hl 0 rfl) ?_
  refine lv_iload_n F.1.1 F.1.2.1 dX7_strengthOf_1 rfl (lv_at hl 1 rfl) ?_
  refine lv_iload_n F.1.1 F.1.2.1 dX7_strengthOf_2 rfl (lv_at hl 2 rfl) ?_
  refine lv_iload_n F.1.1 F.1.2.1 dX7_strengthOf_3 rfl (lv_at hl 3 rfl) ?_
  refine mc_V (As := [_, _, _]) F hM (ct_trackAt l hd (by assumption)) (cwV 3 F.1.2.2.2.2 (lw_V q2015 q2017 qs60 q88 q2018) rfl rfl rfl (by decide +kernel) (mRm_ok (by decide) (by decide))) rfl (tM_0 hd) rfl rfl rfl hl.1 rfl (Nat.le_of_ble_eq_true rfl) dX7_strengthOf_4 ⟨Nat.le_of_ble_eq_true rfl, Nat.le_of_ble_eq_true rfl⟩ (fun ρ4 M1 H locs hP hM _ => ?_)
  rcases hP with ⟨k4, rfl, rfl⟩ | ⟨k4, rfl, rfl⟩
  · have hv : kTk r x z u = 1 := by
      unfold kTk at k4 ⊢
      exact cd1_1 (fun q => k4 (cd1_0 q))
    refine lv_istore (lv' := [(4, _), (0, _), (1, _), (2, _), (3, _)]) F.1.1 F.1.2.1 dX7_strengthOf_7 hl (by decide) rfl (fun ls hl => ?_)
    refine lv_iload F.1.1 F.1.2.1 dX7_strengthOf_9 (lv_at hl 0 rfl) ?_
    refine lv_iconst (v := -1) F.1.1 F.1.2.1 dX7_strengthOf_11 (by decide +kernel) ?_
    refine lv_icmp_ne (tgt := 19) F.1.1 F.1.2.1 dX7_strengthOf_12 (by decide) (fun c12 => ?_) (fun c12 => ?_)
    · exact absurd rfl c12
    · refine lv_fconst0 F.1.1 F.1.2.1 dX7_strengthOf_15 ?_
      refine lv_goto (tgt := 26) F.1.1 F.1.2.1 dX7_strengthOf_16 (by decide) ?_
      exact mr_fret F hQ hM (by first | exact Or.inl ⟨k4, rfl, by rw [hv]⟩ | exact Or.inr ⟨k4, rfl, rfl⟩) (Nat.le_of_ble_eq_true rfl) (Nat.le_of_ble_eq_true rfl) dX7_strengthOf_26
  · have hb : 40 * (3 * nD x + nD z) + nD u < 720 := by
      obtain ⟨⟨d, h1, rfl⟩, ⟨n, h2, rfl⟩, ⟨q0, h3, rfl⟩⟩ := cd1_z k4
      rw [enp] at h1
      rw [nD_nI (show d < 2 ^ 31 by omega), nD_nI (show n < 2 ^ 31 by omega), nD_nI (show q0 < 2 ^ 31 by omega)]
      omega
    refine lv_istore (lv' := [(4, _), (0, _), (1, _), (2, _), (3, _)]) F.1.1 F.1.2.1 dX7_strengthOf_7 hl (by decide) rfl (fun ls hl => ?_)
    refine lv_iload F.1.1 F.1.2.1 dX7_strengthOf_9 (lv_at hl 0 rfl) ?_
    refine lv_iconst (v := -1) F.1.1 F.1.2.1 dX7_strengthOf_11 (by decide +kernel) ?_
    refine lv_icmp_ne (tgt := 19) F.1.1 F.1.2.1 dX7_strengthOf_12 (by decide) (fun c12 => ?_) (fun c12 => ?_)
    · refine lv_aload_n F.1.1 F.1.2.1 dX7_strengthOf_19 rfl (lv_at hl 1 rfl) ?_
      refine tr_get F hd hM 1 (by decide) q1721 rfl dX7_strengthOf_20 ?_
      refine lv_iload F.1.1 F.1.2.1 dX7_strengthOf_23 (lv_at hl 0 rfl) ?_
      refine tr_ld2 F hd hM (by omega) rfl dX7_strengthOf_25 ?_
      exact mr_fret F hQ hM (by first | exact Or.inl ⟨k4, rfl, by rw [hv]⟩ | exact Or.inr ⟨k4, rfl, rfl⟩) (Nat.le_of_ble_eq_true rfl) (Nat.le_of_ble_eq_true rfl) dX7_strengthOf_26
    · exact absurd c12 (m1_ne_nI (by omega))
set_option maxHeartbeats 4000000 in
theorem ct_positionOf (l : Launch) {G : mG} {ad : Nat → Nat} {g r : Nat → Int32} {f : Nat → UInt32} {h : tH} {b : Nat → Int32} {M0 : mM} {x z u : Int32} (hd : tAd ad) (hI : mInv r f) : mMet l yX7_positionOf (ws_ yX7_positionOf cX7_positionOf 5 (some .int)) (mRm 4 0 0) [.ref (ad 0), .int x, .int z, .int u] G (pPre (tM G ad g r f h b M0)) (qPost (kPos r x z u) (.int (nI 0)) (.int (r (846 + (40 * (3 * nD x + nD z) + nD u)))) (tM G ad (va_up g 10 (nI (kPos r x z u))) r f h b M0) (tM G ad (va_up g 10 (nI 0)) r f h b M0)) := by
  refine mMet.of (by decide +kernel) (Nat.le_of_ble_eq_true rfl) fun p e s m args below meth c A Q M hM0 F hnm hQ hM ls hl => ?_
  have hM0 : M = tM G ad g r f h b M0 := hM0
  subst hM0
  have hl : lv_has ls 5 [(0, .ref (ad 0)), (1, .int x), (2, .int z), (3, .int u)] := hl
  obtain ⟨np, hnp, hnp6, hpk, hun⟩ := hI.1
  have enp : nD (r 89) = np := by rw [hnp]; exact nD_nI (by omega)
  refine lv_aload_n F.1.1 F.1.2.1 dX7_positionOf_0 rfl (lv_at hl 0 rfl) ?_
  refine lv_iload_n F.1.1 F.1.2.1 dX7_positionOf_1 rfl (lv_at hl 1 rfl) ?_
  refine lv_iload_n F.1.1 F.1.2.1 dX7_positionOf_2 rfl (lv_at hl 2 rfl) ?_
  refine lv_iload_n F.1.1 F.1.2.1 dX7_positionOf_3 rfl (lv_at hl 3 rfl) ?_
  refine mc_V (As := [_, _, _]) F hM (ct_trackAt l hd (by assumption)) (cwV 3 F.1.2.2.2.2 (lw_V q2015 q2017 qs60 q88 q2018) rfl rfl rfl (by decide +kernel) (mRm_ok (by decide) (by decide))) rfl (tM_0 hd) rfl rfl rfl hl.1 rfl (Nat.le_of_ble_eq_true rfl) dX7_positionOf_4 ⟨Nat.le_of_ble_eq_true rfl, Nat.le_of_ble_eq_true rfl⟩ (fun ρ4 M1 H locs hP hM _ => ?_)
  rcases hP with ⟨k4, rfl, rfl⟩ | ⟨k4, rfl, rfl⟩
  · have hv : kPos r x z u = 1 := by
      unfold kTk at k4
      unfold kPos
      exact cd2_1 (fun q => k4 (cd1_0 q))
    refine lv_istore (lv' := [(4, _), (0, _), (1, _), (2, _), (3, _)]) F.1.1 F.1.2.1 dX7_positionOf_7 hl (by decide) rfl (fun ls hl => ?_)
    refine lv_iload F.1.1 F.1.2.1 dX7_positionOf_9 (lv_at hl 0 rfl) ?_
    refine lv_iconst (v := -1) F.1.1 F.1.2.1 dX7_positionOf_11 (by decide +kernel) ?_
    refine lv_icmp_ne (tgt := 17) F.1.1 F.1.2.1 dX7_positionOf_12 (by decide) (fun c12 => ?_) (fun c12 => ?_)
    · exact absurd rfl c12
    · refine mr_iconst F 0 dX7_positionOf_15 (by decide +kernel) ?_
      exact mr_iret F hQ hM (by first | exact Or.inl ⟨by rw [hv]; decide, rfl, by rw [hv, bx_uu]⟩ | exact Or.inl ⟨by rw [hv]; decide, rfl, by rw [hv]⟩ | exact Or.inr ⟨hv, rfl, rfl⟩) (Nat.le_of_ble_eq_true rfl) (Nat.le_of_ble_eq_true rfl) dX7_positionOf_16
  · have hb : 40 * (3 * nD x + nD z) + nD u < 720 := by
      obtain ⟨⟨d, h1, rfl⟩, ⟨n, h2, rfl⟩, ⟨q0, h3, rfl⟩⟩ := cd1_z k4
      rw [enp] at h1
      rw [nD_nI (show d < 2 ^ 31 by omega), nD_nI (show n < 2 ^ 31 by omega), nD_nI (show q0 < 2 ^ 31 by omega)]
      omega
    have hz : inN x (nD (r 89)) ∧ inN z 3 ∧ inN u 40 := cd1_z k4
    refine lv_istore (lv' := [(4, _), (0, _), (1, _), (2, _), (3, _)]) F.1.1 F.1.2.1 dX7_positionOf_7 hl (by decide) rfl (fun ls hl => ?_)
    refine lv_iload F.1.1 F.1.2.1 dX7_positionOf_9 (lv_at hl 0 rfl) ?_
    refine lv_iconst (v := -1) F.1.1 F.1.2.1 dX7_positionOf_11 (by decide +kernel) ?_
    refine lv_icmp_ne (tgt := 17) F.1.1 F.1.2.1 dX7_positionOf_12 (by decide) (fun c12 => ?_) (fun c12 => ?_)
    · refine lv_aload_n F.1.1 F.1.2.1 dX7_positionOf_17 rfl (lv_at hl 1 rfl) ?_
      refine tr_get F hd hM 0 (by decide) q1720 rfl dX7_positionOf_18 ?_
      refine mr_bipush F 126 dX7_positionOf_21 (by decide +kernel) ?_
      refine lv_iload F.1.1 F.1.2.1 dX7_positionOf_23 (lv_at hl 0 rfl) ?_
      refine mr_iaddN F dX7_positionOf_25 ?_
      refine tr_ld1 F hd hM (by omega) rfl dX7_positionOf_26 ?_
      refine lv_iconst (v := -1) F.1.1 F.1.2.1 dX7_positionOf_27 (by decide +kernel) ?_
      refine lv_icmp_ne (tgt := 39) F.1.1 F.1.2.1 dX7_positionOf_28 (by decide) (fun c28 => ?_) (fun c28 => ?_)
      · have hv : kPos r x z u = 0 := cd2_0 hz c28
        refine lv_aload_n F.1.1 F.1.2.1 dX7_positionOf_39 rfl (lv_at hl 1 rfl) ?_
        refine tr_get F hd hM 0 (by decide) q1720 rfl dX7_positionOf_40 ?_
        refine mr_sipush F 846 dX7_positionOf_43 (by decide +kernel) ?_
        refine lv_iload F.1.1 F.1.2.1 dX7_positionOf_46 (lv_at hl 0 rfl) ?_
        refine mr_iaddN F dX7_positionOf_48 ?_
        refine tr_ld1 F hd hM (by omega) rfl dX7_positionOf_49 ?_
        exact mr_iret F hQ hM (by first | exact Or.inl ⟨by rw [hv]; decide, rfl, by rw [hv, bx_uu]⟩ | exact Or.inl ⟨by rw [hv]; decide, rfl, by rw [hv]⟩ | exact Or.inr ⟨hv, rfl, rfl⟩) (Nat.le_of_ble_eq_true rfl) (Nat.le_of_ble_eq_true rfl) dX7_positionOf_50
      · have hv : kPos r x z u = 2 := cd2_2 hz (fun q => q c28)
        refine lv_aload_n F.1.1 F.1.2.1 dX7_positionOf_31 rfl (lv_at hl 1 rfl) ?_
        refine mr_iconst F 2 dX7_positionOf_32 (by decide +kernel) ?_
        refine mc_Va (As := [_]) F hM (ct_fails l hd ) (cwV 1 F.1.2.2.2.2 (lw_V q1789 q1791 qs34 q88 q1792) rfl rfl rfl (by decide +kernel) (mRm_ok (by decide) (by decide))) (tM_0 hd) rfl rfl rfl rfl hl.1 rfl (Nat.le_of_ble_eq_true rfl) dX7_positionOf_33 ⟨Nat.le_of_ble_eq_true rfl, Nat.le_of_ble_eq_true rfl⟩ (fun H locs hM => ?_)
        refine lv_goto (tgt := 50) F.1.1 F.1.2.1 dX7_positionOf_36 (by decide) ?_
        exact mr_iret F hQ hM (by first | exact Or.inl ⟨by rw [hv]; decide, rfl, by rw [hv, bx_uu]⟩ | exact Or.inl ⟨by rw [hv]; decide, rfl, by rw [hv]⟩ | exact Or.inr ⟨hv, rfl, rfl⟩) (Nat.le_of_ble_eq_true rfl) (Nat.le_of_ble_eq_true rfl) dX7_positionOf_50
    · exact absurd c12 (m1_ne_nI (by omega))
set_option maxHeartbeats 4000000 in
theorem ct_writtenOn (l : Launch) {G : mG} {ad : Nat → Nat} {g r : Nat → Int32} {f : Nat → UInt32} {h : tH} {b : Nat → Int32} {M0 : mM} {x : Int32} (hd : tAd ad) (hI : mInv r f) : mMet l yX7_writtenOn (ws_ yX7_writtenOn cX7_writtenOn 4 (some .int)) (mRm 3 0 0) [.ref (ad 0), .int x] G (pPre (tM G ad g r f h b M0)) (qPost (kPk r x) (.int (nI 0)) (.int (mWn r (120 * nD x) 120)) (tM G ad (va_up g 10 (nI (kPk r x))) r f h b M0) (tM G ad (va_up g 10 (nI 0)) r f h b M0)) := by
  refine mMet.of (by decide +kernel) (Nat.le_of_ble_eq_true rfl) fun p e s m args below meth c A Q M hM0 F hnm hQ hM ls hl => ?_
  have hM0 : M = tM G ad g r f h b M0 := hM0
  subst hM0
  have hl : lv_has ls 4 [(0, .ref (ad 0)), (1, .int x)] := hl
  obtain ⟨np, hnp, hnp6, hpk, hun⟩ := hI.1
  have enp : nD (r 89) = np := by rw [hnp]; exact nD_nI (by omega)
  refine lv_aload_n F.1.1 F.1.2.1 dX7_writtenOn_0 rfl (lv_at hl 0 rfl) ?_
  refine mr_iconst F 0 dX7_writtenOn_1 (by decide +kernel) ?_
  refine tr_put F hd hM 10 (by decide) q1730 rfl rfl rfl (tw_s10 _ _ _) dX7_writtenOn_2 (fun H locs hM => ?_)
  refine lv_aload_n F.1.1 F.1.2.1 dX7_writtenOn_5 rfl (lv_at hl 0 rfl) ?_
  refine lv_iload_n F.1.1 F.1.2.1 dX7_writtenOn_6 rfl (lv_at hl 1 rfl) ?_
  refine mc_Va (As := [_]) F hM (ct_isPack l hd (by assumption) (by omega)) (cwV 1 F.1.2.2.2.2 (lw_V q1832 q1834 qs40 q88 q1835) rfl rfl rfl (by decide +kernel) (mRm_ok (by decide) (by decide))) (tM_0 hd) rfl rfl rfl rfl hl.1 rfl (Nat.le_of_ble_eq_true rfl) dX7_writtenOn_7 ⟨Nat.le_of_ble_eq_true rfl, Nat.le_of_ble_eq_true rfl⟩ (fun H locs hM => ?_)
  refine mr_ifneB F (tgt := 19) dX7_writtenOn_10 (by decide) (fun c10 => ?_) (fun c10 => ?_)
  · have hv : kPk r x = 0 := by unfold kPk; rw [enp]; exact cd1_0 c10
    obtain ⟨d, hd4, rfl⟩ := c10
    have ed := nD_nI (show d < 2 ^ 31 by omega)
    refine mr_iconst F 0 dX7_writtenOn_19 (by decide +kernel) ?_
    refine lv_istore_n (lv' := [(2, _), (0, _), (1, _)]) F.1.1 F.1.2.1 dX7_writtenOn_20 rfl hl (by decide) rfl (fun ls hl => ?_)
    refine lv_iload_n F.1.1 F.1.2.1 dX7_writtenOn_21 rfl (lv_at hl 2 rfl) ?_
    refine mr_iconst F 0 dX7_writtenOn_22 (by decide +kernel) ?_
    refine mr_iconst F 0 dX7_writtenOn_23 (by decide +kernel) ?_
    refine mc_Sa (As := [_, _, _]) F hM (ct_track l ) (va_cwS 3 F.1.2.2.2.2 (lw_S q1894 q1895 q88 q1896) rfl rfl rfl (by decide +kernel) (mRm_ok (by decide) (by decide))) rfl rfl hl.1 rfl (Nat.le_of_ble_eq_true rfl) dX7_writtenOn_24 ⟨Nat.le_of_ble_eq_true rfl, Nat.le_of_ble_eq_true rfl⟩ (fun H locs hM => ?_)
    refine lv_istore_n (lv' := [(3, _), (2, _), (0, _), (1, _)]) F.1.1 F.1.2.1 dX7_writtenOn_27 rfl hl (by decide) rfl (fun ls hl => ?_)
    have lp : ∀ i k : Nat, k + i = 120 → ∀ (H : Heap) (locs : List Loc), mWd G A s.heap (tM G ad (va_up g 10 (nI 0)) r f h b M0) H locs → ∀ ls : Array Slot, lv_has ls 4 [(3, .int (nI (120 * d + k))), (2, .int (mWn r (120 * d) k)), (0, .ref (ad 0)), (1, .int (nI d))] → W p l e (mRm 3 0 0) s m args below meth c H locs 0 0 Q (F0 m 28 ls []) := by
      intro i
      induction i with
      | zero =>
        intro k hk H locs hM ls hl
        obtain rfl : k = 120 := by omega
        refine lv_iload_n F.1.1 F.1.2.1 dX7_writtenOn_28 rfl (lv_at hl 0 rfl) ?_
        refine lv_iload_n F.1.1 F.1.2.1 dX7_writtenOn_29 rfl (lv_at hl 3 rfl) ?_
        refine mr_iconst F 1 dX7_writtenOn_30 (by decide +kernel) ?_
        refine mr_iaddN F dX7_writtenOn_31 ?_
        refine mr_iconst F 0 dX7_writtenOn_32 (by decide +kernel) ?_
        refine mr_iconst F 0 dX7_writtenOn_33 (by decide +kernel) ?_
        refine mc_Sa (As := [_, _, _]) F hM (ct_track l ) (va_cwS 3 F.1.2.2.2.2 (lw_S q1894 q1895 q88 q1896) rfl rfl rfl (by decide +kernel) (mRm_ok (by decide) (by decide))) rfl rfl hl.1 rfl (Nat.le_of_ble_eq_true rfl) dX7_writtenOn_34 ⟨Nat.le_of_ble_eq_true rfl, Nat.le_of_ble_eq_true rfl⟩ (fun H locs hM => ?_)
        refine mr_icmp_geN F (tgt := 67) dX7_writtenOn_37 (by decide) (by omega) (by omega) (fun c37 => ?_) (fun c37 => ?_)
        · refine lv_iload_n F.1.1 F.1.2.1 dX7_writtenOn_67 rfl (lv_at hl 1 rfl) ?_
          exact mr_iret F hQ hM (by first | exact Or.inl ⟨by rw [hv]; decide, rfl, by rw [hv, bx_uu]⟩ | exact Or.inr ⟨hv, by rw [ed], rfl⟩) (Nat.le_of_ble_eq_true rfl) (Nat.le_of_ble_eq_true rfl) dX7_writtenOn_68
        · exact absurd c37 (by omega)
      | succ i ih =>
        intro k hk H locs hM ls hl
        refine lv_iload_n F.1.1 F.1.2.1 dX7_writtenOn_28 rfl (lv_at hl 0 rfl) ?_
        refine lv_iload_n F.1.1 F.1.2.1 dX7_writtenOn_29 rfl (lv_at hl 3 rfl) ?_
        refine mr_iconst F 1 dX7_writtenOn_30 (by decide +kernel) ?_
        refine mr_iaddN F dX7_writtenOn_31 ?_
        refine mr_iconst F 0 dX7_writtenOn_32 (by decide +kernel) ?_
        refine mr_iconst F 0 dX7_writtenOn_33 (by decide +kernel) ?_
        refine mc_Sa (As := [_, _, _]) F hM (ct_track l ) (va_cwS 3 F.1.2.2.2.2 (lw_S q1894 q1895 q88 q1896) rfl rfl rfl (by decide +kernel) (mRm_ok (by decide) (by decide))) rfl rfl hl.1 rfl (Nat.le_of_ble_eq_true rfl) dX7_writtenOn_34 ⟨Nat.le_of_ble_eq_true rfl, Nat.le_of_ble_eq_true rfl⟩ (fun H locs hM => ?_)
        refine mr_icmp_geN F (tgt := 67) dX7_writtenOn_37 (by decide) (by omega) (by omega) (fun c37 => ?_) (fun c37 => ?_)
        · exact absurd c37 (by omega)
        · refine lv_iload_n F.1.1 F.1.2.1 dX7_writtenOn_40 rfl (lv_at hl 1 rfl) ?_
          refine lv_aload_n F.1.1 F.1.2.1 dX7_writtenOn_41 rfl (lv_at hl 2 rfl) ?_
          refine tr_get F hd hM 0 (by decide) q1720 rfl dX7_writtenOn_42 ?_
          refine mr_bipush F 126 dX7_writtenOn_45 (by decide +kernel) ?_
          refine lv_iload_n F.1.1 F.1.2.1 dX7_writtenOn_47 rfl (lv_at hl 0 rfl) ?_
          refine mr_iaddN F dX7_writtenOn_48 ?_
          refine tr_ld1 F hd hM (by omega) rfl dX7_writtenOn_49 ?_
          refine lv_iconst (v := -1) F.1.1 F.1.2.1 dX7_writtenOn_50 (by decide +kernel) ?_
          refine lv_icmp_ne (tgt := 58) F.1.1 F.1.2.1 dX7_writtenOn_51 (by decide) (fun c51 => ?_) (fun c51 => ?_)
          · have hw : mWn r (120 * d) (k + 1) = mWn r (120 * d) k + nI 1 := by
              show mWn r (120 * d) k + _ = _
              rw [if_neg c51]
            refine mr_iconst F 1 dX7_writtenOn_58 (by decide +kernel) ?_
            refine lv_iadd F.1.1 F.1.2.1 dX7_writtenOn_59 ?_
            refine lv_istore_n (lv' := [(2, _), (3, _), (0, _), (1, _)]) F.1.1 F.1.2.1 dX7_writtenOn_60 rfl hl (by decide) rfl (fun ls hl => ?_)
            refine lv_iinc (lv' := [(3, _), (2, _), (0, _), (1, _)]) F.1.1 F.1.2.1 dX7_writtenOn_61 hl (k := 1) rfl (nK_add _ 1) (by decide) rfl (fun ls hl => ?_)
            refine lv_goto (tgt := 28) F.1.1 F.1.2.1 dX7_writtenOn_64 (by decide) ?_
            exact ih (k + 1) (by omega) _ _ hM _ (by rw [hw]; exact lv_sub hl [0, 1, 2, 3] rfl)
          · have hw : mWn r (120 * d) (k + 1) = mWn r (120 * d) k + nI 0 := by
              show mWn r (120 * d) k + _ = _
              rw [if_pos c51]
            refine mr_iconst F 0 dX7_writtenOn_54 (by decide +kernel) ?_
            refine lv_goto (tgt := 59) F.1.1 F.1.2.1 dX7_writtenOn_55 (by decide) ?_
            refine lv_iadd F.1.1 F.1.2.1 dX7_writtenOn_59 ?_
            refine lv_istore_n (lv' := [(2, _), (3, _), (0, _), (1, _)]) F.1.1 F.1.2.1 dX7_writtenOn_60 rfl hl (by decide) rfl (fun ls hl => ?_)
            refine lv_iinc (lv' := [(3, _), (2, _), (0, _), (1, _)]) F.1.1 F.1.2.1 dX7_writtenOn_61 hl (k := 1) rfl (nK_add _ 1) (by decide) rfl (fun ls hl => ?_)
            refine lv_goto (tgt := 28) F.1.1 F.1.2.1 dX7_writtenOn_64 (by decide) ?_
            exact ih (k + 1) (by omega) _ _ hM _ (by rw [hw]; exact lv_sub hl [0, 1, 2, 3] rfl)
    exact lp 120 0 rfl _ _ hM _ (by rw [show 120 * d + 0 = 40 * (3 * d + 0) + 0 by omega]; exact lv_sub hl [0, 1, 2, 3] rfl)
  · have hv : kPk r x = 1 := by unfold kPk; rw [enp]; exact cd1_1 c10
    refine lv_aload_n F.1.1 F.1.2.1 dX7_writtenOn_13 rfl (lv_at hl 0 rfl) ?_
    refine mr_iconst F 1 dX7_writtenOn_14 (by decide +kernel) ?_
    refine mc_Va (As := [_]) F hM (ct_fails l hd ) (cwV 1 F.1.2.2.2.2 (lw_V q1789 q1791 qs34 q88 q1792) rfl rfl rfl (by decide +kernel) (mRm_ok (by decide) (by decide))) (tM_0 hd) rfl rfl rfl rfl hl.1 rfl (Nat.le_of_ble_eq_true rfl) dX7_writtenOn_15 ⟨Nat.le_of_ble_eq_true rfl, Nat.le_of_ble_eq_true rfl⟩ (fun H locs hM => ?_)
    exact mr_iret F hQ hM (by first | exact Or.inl ⟨by rw [hv]; decide, rfl, by rw [hv, bx_uu]⟩ | exact Or.inr ⟨hv, by rw [ed], rfl⟩) (Nat.le_of_ble_eq_true rfl) (Nat.le_of_ble_eq_true rfl) dX7_writtenOn_18
set_option maxHeartbeats 4000000 in
theorem ct_gap (l : Launch) {G : mG} {ad : Nat → Nat} {g r : Nat → Int32} {f : Nat → UInt32} {h : tH} {b : Nat → Int32} {M0 : mM} {x z : Int32} (hd : tAd ad) (hI : mInv r f) : mMet l yX7_gap (ws_ yX7_gap cX7_gap 4 (some .int)) (mRm 5 0 0) [.ref (ad 0), .int x, .int z] G (pPre (tM G ad g r f h b M0)) (qPost (kGap r x z) (.int (nI 0)) (.int (r (846 + (40 * (3 * nD (r (60 + nD x)) + nD z) + nD (r (52 + nD x)))) - mPl r (nD x) (nD z) (nD (r (60 + nD x))) (nD (r (52 + nD x))))) (tM G ad (va_up g 10 (nI (kGap r x z))) r f h b M0) (tM G ad (va_up g 10 (nI 0)) r f h b M0)) := by
  refine mMet.of (by decide +kernel) (Nat.le_of_ble_eq_true rfl) fun p e s m args below meth c A Q M hM0 F hnm hQ hM ls hl => ?_
  have hM0 : M = tM G ad g r f h b M0 := hM0
  subst hM0
  have hl : lv_has ls 4 [(0, .ref (ad 0)), (1, .int x), (2, .int z)] := hl
  obtain ⟨np, hnp, hnp6, hpk, hun⟩ := hI.1
  have enp : nD (r 89) = np := by rw [hnp]; exact nD_nI (by omega)
  refine lv_aload_n F.1.1 F.1.2.1 dX7_gap_0 rfl (lv_at hl 0 rfl) ?_
  refine lv_aload_n F.1.1 F.1.2.1 dX7_gap_1 rfl (lv_at hl 0 rfl) ?_
  refine lv_iload_n F.1.1 F.1.2.1 dX7_gap_2 rfl (lv_at hl 1 rfl) ?_
  refine lv_iload_n F.1.1 F.1.2.1 dX7_gap_3 rfl (lv_at hl 2 rfl) ?_
  refine mc_Va (As := [_, _]) F hM (ct_readRefusal l hd ) (cwV 2 F.1.2.2.2.2 (lw_V q1911 q1913 qs51 q88 q1914) rfl rfl rfl (by decide +kernel) (mRm_ok (by decide) (by decide))) (tM_0 hd) rfl rfl rfl rfl hl.1 rfl (Nat.le_of_ble_eq_true rfl) dX7_gap_4 ⟨Nat.le_of_ble_eq_true rfl, Nat.le_of_ble_eq_true rfl⟩ (fun H locs hM => ?_)
  refine tr_put F hd hM 10 (by decide) q1730 rfl rfl rfl (tw_s10 _ _ _) dX7_gap_7 (fun H locs hM => ?_)
  refine lv_aload_n F.1.1 F.1.2.1 dX7_gap_10 rfl (lv_at hl 0 rfl) ?_
  refine tr_get F hd hM 10 (by decide) q1730 (congrArg (fun z => some (Value.int z)) (va_up_self g 10 _)) dX7_gap_11 ?_
  have hkb : kRead r x z < 2 ^ 31 := Nat.lt_of_le_of_lt (cd2_le _ _) (by decide)
  refine mr_ifleN F (tgt := 19) dX7_gap_14 (by decide) (by omega) (fun c14 => ?_) (fun c14 => ?_)
  · obtain ⟨⟨⟨d, hd4, rfl⟩, ⟨n, hn4, rfl⟩⟩, hpn⟩ := cd2_z c14
    have ed := nD_nI (show d < 2 ^ 31 by omega)
    have en := nD_nI (show n < 2 ^ 31 by omega)
    rw [ed] at hpn
    obtain ⟨p0, hp0, hp⟩ := (hpk d hd4).resolve_left hpn
    have ep : nD (r (60 + d)) = p0 := by rw [hp]; exact nD_nI (by omega)
    obtain ⟨c0, hc4, hc⟩ := hI.2.2.2.2.2.1 d hd4
    have ec : nD (r (52 + d)) = c0 := by rw [hc]; exact nD_nI (by omega)
    refine lv_aload_n F.1.1 F.1.2.1 dX7_gap_19 rfl (lv_at hl 0 rfl) ?_
    refine tr_get F hd hM 0 (by decide) q1720 rfl dX7_gap_20 ?_
    refine mr_bipush F 60 dX7_gap_23 (by decide +kernel) ?_
    refine lv_iload_n F.1.1 F.1.2.1 dX7_gap_25 rfl (lv_at hl 1 rfl) ?_
    refine mr_iaddN F dX7_gap_26 ?_
    refine tr_ld1 F hd hM (by omega) hp dX7_gap_27 ?_
    refine lv_iload_n F.1.1 F.1.2.1 dX7_gap_28 rfl (lv_at hl 2 rfl) ?_
    refine lv_aload_n F.1.1 F.1.2.1 dX7_gap_29 rfl (lv_at hl 0 rfl) ?_
    refine tr_get F hd hM 0 (by decide) q1720 rfl dX7_gap_30 ?_
    refine mr_bipush F 52 dX7_gap_33 (by decide +kernel) ?_
    refine lv_iload_n F.1.1 F.1.2.1 dX7_gap_35 rfl (lv_at hl 1 rfl) ?_
    refine mr_iaddN F dX7_gap_36 ?_
    refine tr_ld1 F hd hM (by omega) hc dX7_gap_37 ?_
    refine mc_Sa (As := [_, _, _]) F hM (ct_track l ) (va_cwS 3 F.1.2.2.2.2 (lw_S q1894 q1895 q88 q1896) rfl rfl rfl (by decide +kernel) (mRm_ok (by decide) (by decide))) rfl rfl hl.1 rfl (Nat.le_of_ble_eq_true rfl) dX7_gap_38 ⟨Nat.le_of_ble_eq_true rfl, Nat.le_of_ble_eq_true rfl⟩ (fun H locs hM => ?_)
    refine lv_istore_n (lv' := [(3, _), (0, _), (1, _), (2, _)]) F.1.1 F.1.2.1 dX7_gap_41 rfl hl (by decide) rfl (fun ls hl => ?_)
    refine lv_aload_n F.1.1 F.1.2.1 dX7_gap_42 rfl (lv_at hl 1 rfl) ?_
    refine tr_get F hd hM 0 (by decide) q1720 rfl dX7_gap_43 ?_
    refine mr_bipush F 126 dX7_gap_46 (by decide +kernel) ?_
    refine lv_iload_n F.1.1 F.1.2.1 dX7_gap_48 rfl (lv_at hl 0 rfl) ?_
    refine mr_iaddN F dX7_gap_49 ?_
    refine tr_ld1 F hd hM (by omega) rfl dX7_gap_50 ?_
    refine lv_iconst (v := -1) F.1.1 F.1.2.1 dX7_gap_51 (by decide +kernel) ?_
    refine lv_icmp_ne (tgt := 63) F.1.1 F.1.2.1 dX7_gap_52 (by decide) (fun c52 => ?_) (fun c52 => ?_)
    · have hv : kGap r (nI d) (nI n) = 0 := by
        unfold kGap
        exact cd2_0 ⟨⟨d, hd4, rfl⟩, ⟨n, hn4, rfl⟩⟩ ⟨by rw [ed]; exact hpn, by simp only [ed, en, ep, ec]; exact c52⟩
      refine lv_aload_n F.1.1 F.1.2.1 dX7_gap_63 rfl (lv_at hl 1 rfl) ?_
      refine tr_get F hd hM 0 (by decide) q1720 rfl dX7_gap_64 ?_
      refine mr_sipush F 846 dX7_gap_67 (by decide +kernel) ?_
      refine lv_iload_n F.1.1 F.1.2.1 dX7_gap_70 rfl (lv_at hl 0 rfl) ?_
      refine mr_iaddN F dX7_gap_71 ?_
      refine tr_ld1 F hd hM (by omega) rfl dX7_gap_72 ?_
      refine lv_aload_n F.1.1 F.1.2.1 dX7_gap_73 rfl (lv_at hl 1 rfl) ?_
      refine lv_iload_n F.1.1 F.1.2.1 dX7_gap_74 rfl (lv_at hl 2 rfl) ?_
      refine lv_iload_n F.1.1 F.1.2.1 dX7_gap_75 rfl (lv_at hl 3 rfl) ?_
      refine lv_aload_n F.1.1 F.1.2.1 dX7_gap_76 rfl (lv_at hl 1 rfl) ?_
      refine tr_get F hd hM 0 (by decide) q1720 rfl dX7_gap_77 ?_
      refine mr_bipush F 60 dX7_gap_80 (by decide +kernel) ?_
      refine lv_iload_n F.1.1 F.1.2.1 dX7_gap_82 rfl (lv_at hl 2 rfl) ?_
      refine mr_iaddN F dX7_gap_83 ?_
      refine tr_ld1 F hd hM (by omega) hp dX7_gap_84 ?_
      refine lv_aload_n F.1.1 F.1.2.1 dX7_gap_85 rfl (lv_at hl 1 rfl) ?_
      refine tr_get F hd hM 0 (by decide) q1720 rfl dX7_gap_86 ?_
      refine mr_bipush F 52 dX7_gap_89 (by decide +kernel) ?_
      refine lv_iload_n F.1.1 F.1.2.1 dX7_gap_91 rfl (lv_at hl 2 rfl) ?_
      refine mr_iaddN F dX7_gap_92 ?_
      refine tr_ld1 F hd hM (by omega) hc dX7_gap_93 ?_
      refine mc_Va (As := [_, _, _, _]) F hM (ct_place l hd (by omega) (by omega) (by omega)) (cwV 4 F.1.2.2.2.2 (lw_V q1897 q1899 qs49 q88 q1900) rfl rfl rfl (by decide +kernel) (mRm_ok (by decide) (by decide))) (tM_0 hd) rfl rfl rfl rfl hl.1 rfl (Nat.le_of_ble_eq_true rfl) dX7_gap_94 ⟨Nat.le_of_ble_eq_true rfl, Nat.le_of_ble_eq_true rfl⟩ (fun H locs hM => ?_)
      refine lv_isub F.1.1 F.1.2.1 dX7_gap_97 ?_
      exact mr_iret F hQ hM (by first | exact Or.inr ⟨hv, by simp only [ed, en, ep, ec], by rw [c14]⟩ | exact Or.inl ⟨by rw [hv]; decide, rfl, by rw [hv, bx_uu]⟩ | exact Or.inl ⟨by rw [hv]; exact c14, rfl, by rw [hv]⟩) (Nat.le_of_ble_eq_true rfl) (Nat.le_of_ble_eq_true rfl) dX7_gap_98
    · have hv : kGap r (nI d) (nI n) = 2 := by
        unfold kGap
        exact cd2_2 ⟨⟨d, hd4, rfl⟩, ⟨n, hn4, rfl⟩⟩ (fun q => q.2 (by simp only [ed, en, ep, ec]; exact c52))
      refine lv_aload_n F.1.1 F.1.2.1 dX7_gap_55 rfl (lv_at hl 1 rfl) ?_
      refine mr_iconst F 2 dX7_gap_56 (by decide +kernel) ?_
      refine mc_Va (As := [_]) F hM (ct_fails l hd ) (cwV 1 F.1.2.2.2.2 (lw_V q1789 q1791 qs34 q88 q1792) rfl rfl rfl (by decide +kernel) (mRm_ok (by decide) (by decide))) (tM_0 hd) rfl rfl rfl rfl hl.1 rfl (Nat.le_of_ble_eq_true rfl) dX7_gap_57 ⟨Nat.le_of_ble_eq_true rfl, Nat.le_of_ble_eq_true rfl⟩ (fun H locs hM => ?_)
      refine lv_goto (tgt := 98) F.1.1 F.1.2.1 dX7_gap_60 (by decide) ?_
      exact mr_iret F hQ hM (by first | exact Or.inr ⟨hv, by simp only [ed, en, ep, ec], by rw [c14]⟩ | exact Or.inl ⟨by rw [hv]; decide, rfl, by rw [hv, bx_uu]⟩ | exact Or.inl ⟨by rw [hv]; exact c14, rfl, by rw [hv]⟩) (Nat.le_of_ble_eq_true rfl) (Nat.le_of_ble_eq_true rfl) dX7_gap_98
  · have hv : kGap r x z = kRead r x z := by
      unfold kGap kRead
      by_cases q1 : inN x 4 ∧ inN z 3
      · rw [cd2_2 q1 (fun q => c14 (cd2_0 q1 q.1)), cd2_2 q1 (fun q => c14 (cd2_0 q1 q))]
      · rw [cd2_1 q1, cd2_1 q1]
    refine mr_iconst F 0 dX7_gap_17 (by decide +kernel) ?_
    exact mr_iret F hQ hM (by first | exact Or.inr ⟨hv, by simp only [ed, en, ep, ec], by rw [c14]⟩ | exact Or.inl ⟨by rw [hv]; decide, rfl, by rw [hv, bx_uu]⟩ | exact Or.inl ⟨by rw [hv]; exact c14, rfl, by rw [hv]⟩) (Nat.le_of_ble_eq_true rfl) (Nat.le_of_ble_eq_true rfl) dX7_gap_18
