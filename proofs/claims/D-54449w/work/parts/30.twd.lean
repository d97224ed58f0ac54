/-! THE REFERENCE: its acts -/
set_option maxHeartbeats 4000000 in
theorem ct_mends (l : Launch) {G : mG} {ad : Nat → Nat} {g r : Nat → Int32} {f : Nat → UInt32} {h : tH} {b : Nat → Int32} {M0 : mM} {d n : Nat} (hd : tAd ad) (h1 : d < 4) (h2 : n < 4) : mMet l yX7_mends (ws_ yX7_mends cX7_mends 5 (some .int)) (mRm 2 0 0) [.ref (ad 0), .int (nI d), .int (nI n)] G (pPre (tM G ad g r f h b M0)) (pPost (tM G ad g (nMend r d n) f h b M0) (some (.int (r (0 + (4 * d + n)))))) := by
  refine mMet.of (by decide +kernel) (Nat.le_of_ble_eq_true rfl) fun p e s m args below meth c A Q M hM0 F hnm hQ hM ls hl => ?_
  have hM0 : M = tM G ad g r f h b M0 := hM0
  subst hM0
  have hl : lv_has ls 5 [(0, .ref (ad 0)), (1, .int (nI d)), (2, .int (nI n))] := hl
  refine lv_iload_n F.1.1 F.1.2.1 dX7_mends_0 rfl (lv_at hl 1 rfl) ?_
  refine lv_iload_n F.1.1 F.1.2.1 dX7_mends_1 rfl (lv_at hl 2 rfl) ?_
  refine mc_Sa (As := [_, _]) F hM (ct_head l ) (va_cwS 2 F.1.2.2.2.2 (lw_S q1793 q1794 q88 q1795) rfl rfl rfl (by decide +kernel) (mRm_ok (by decide) (by decide))) rfl rfl hl.1 rfl (Nat.le_of_ble_eq_true rfl) dX7_mends_2 ⟨Nat.le_of_ble_eq_true rfl, Nat.le_of_ble_eq_true rfl⟩ (fun H locs hM => ?_)
  refine lv_istore_n (lv' := [(3, _), (0, _), (1, _), (2, _)]) F.1.1 F.1.2.1 dX7_mends_5 rfl hl (by decide) rfl (fun ls hl => ?_)
  refine lv_aload_n F.1.1 F.1.2.1 dX7_mends_6 rfl (lv_at hl 1 rfl) ?_
  refine tr_get F hd hM 0 (by decide) q1720 rfl dX7_mends_7 ?_
  refine mr_iconst F 0 dX7_mends_10 (by decide +kernel) ?_
  refine lv_iload_n F.1.1 F.1.2.1 dX7_mends_11 rfl (lv_at hl 0 rfl) ?_
  refine mr_iaddN F dX7_mends_12 ?_
  refine tr_ld1 F hd hM (by omega) rfl dX7_mends_13 ?_
  refine lv_istore (lv' := [(4, _), (3, _), (0, _), (1, _), (2, _)]) F.1.1 F.1.2.1 dX7_mends_14 hl (by decide) rfl (fun ls hl => ?_)
  refine lv_aload_n F.1.1 F.1.2.1 dX7_mends_16 rfl (lv_at hl 2 rfl) ?_
  refine tr_get F hd hM 0 (by decide) q1720 rfl dX7_mends_17 ?_
  refine mr_bipush F 16 dX7_mends_20 (by decide +kernel) ?_
  refine lv_iload_n F.1.1 F.1.2.1 dX7_mends_22 rfl (lv_at hl 1 rfl) ?_
  refine mr_iaddN F dX7_mends_23 ?_
  refine mr_iconst F 0 dX7_mends_24 (by decide +kernel) ?_
  refine tr_st1 F hd hM (by omega) dX7_mends_25 (fun H locs hM => ?_)
  refine lv_aload_n F.1.1 F.1.2.1 dX7_mends_26 rfl (lv_at hl 2 rfl) ?_
  refine tr_get F hd hM 0 (by decide) q1720 rfl dX7_mends_27 ?_
  refine mr_iconst F 0 dX7_mends_30 (by decide +kernel) ?_
  refine lv_iload_n F.1.1 F.1.2.1 dX7_mends_31 rfl (lv_at hl 1 rfl) ?_
  refine mr_iaddN F dX7_mends_32 ?_
  refine mr_iconst F 0 dX7_mends_33 (by decide +kernel) ?_
  refine tr_st1 F hd hM (by omega) dX7_mends_34 (fun H locs hM => ?_)
  refine lv_aload_n F.1.1 F.1.2.1 dX7_mends_35 rfl (lv_at hl 2 rfl) ?_
  refine tr_get F hd hM 0 (by decide) q1720 rfl dX7_mends_36 ?_
  refine mr_bipush F 32 dX7_mends_39 (by decide +kernel) ?_
  refine lv_iload_n F.1.1 F.1.2.1 dX7_mends_41 rfl (lv_at hl 1 rfl) ?_
  refine mr_iaddN F dX7_mends_42 ?_
  refine mr_iconst F 0 dX7_mends_43 (by decide +kernel) ?_
  refine tr_st1 F hd hM (by omega) dX7_mends_44 (fun H locs hM => ?_)
  refine lv_iload F.1.1 F.1.2.1 dX7_mends_45 (lv_at hl 0 rfl) ?_
  exact mr_iret F hQ hM ⟨rfl, rfl⟩ (Nat.le_of_ble_eq_true rfl) (Nat.le_of_ble_eq_true rfl) dX7_mends_47
set_option maxHeartbeats 4000000 in
theorem ct_unmounts (l : Launch) {G : mG} {ad : Nat → Nat} {g r : Nat → Int32} {f : Nat → UInt32} {h : tH} {b : Nat → Int32} {M0 : mM} {d : Nat} (hd : tAd ad) (h1 : d < 4) : mMet l yX7_unmounts (ws_ yX7_unmounts cX7_unmounts 3 (some .int)) (mRm 1 0 0) [.ref (ad 0), .int (nI d)] G (pPre (tM G ad g r f h b M0)) (pPost (tM G ad g (nUnm r d) f h b M0) (some (.int (r (60 + d))))) := by
  refine mMet.of (by decide +kernel) (Nat.le_of_ble_eq_true rfl) fun p e s m args below meth c A Q M hM0 F hnm hQ hM ls hl => ?_
  have hM0 : M = tM G ad g r f h b M0 := hM0
  subst hM0
  have hl : lv_has ls 3 [(0, .ref (ad 0)), (1, .int (nI d))] := hl
  refine lv_aload_n F.1.1 F.1.2.1 dX7_unmounts_0 rfl (lv_at hl 0 rfl) ?_
  refine tr_get F hd hM 0 (by decide) q1720 rfl dX7_unmounts_1 ?_
  refine mr_bipush F 60 dX7_unmounts_4 (by decide +kernel) ?_
  refine lv_iload_n F.1.1 F.1.2.1 dX7_unmounts_6 rfl (lv_at hl 1 rfl) ?_
  refine mr_iaddN F dX7_unmounts_7 ?_
  refine tr_ld1 F hd hM (by omega) rfl dX7_unmounts_8 ?_
  refine lv_istore_n (lv' := [(2, _), (0, _), (1, _)]) F.1.1 F.1.2.1 dX7_unmounts_9 rfl hl (by decide) rfl (fun ls hl => ?_)
  refine lv_aload_n F.1.1 F.1.2.1 dX7_unmounts_10 rfl (lv_at hl 1 rfl) ?_
  refine tr_get F hd hM 0 (by decide) q1720 rfl dX7_unmounts_11 ?_
  refine mr_bipush F 60 dX7_unmounts_14 (by decide +kernel) ?_
  refine lv_iload_n F.1.1 F.1.2.1 dX7_unmounts_16 rfl (lv_at hl 2 rfl) ?_
  refine mr_iaddN F dX7_unmounts_17 ?_
  refine lv_iconst (v := -1) F.1.1 F.1.2.1 dX7_unmounts_18 (by decide +kernel) ?_
  refine tr_st1 F hd hM (by omega) dX7_unmounts_19 (fun H locs hM => ?_)
  refine lv_aload_n F.1.1 F.1.2.1 dX7_unmounts_20 rfl (lv_at hl 1 rfl) ?_
  refine tr_get F hd hM 0 (by decide) q1720 rfl dX7_unmounts_21 ?_
  refine mr_bipush F 52 dX7_unmounts_24 (by decide +kernel) ?_
  refine lv_iload_n F.1.1 F.1.2.1 dX7_unmounts_26 rfl (lv_at hl 2 rfl) ?_
  refine mr_iaddN F dX7_unmounts_27 ?_
  refine mr_iconst F 0 dX7_unmounts_28 (by decide +kernel) ?_
  refine tr_st1 F hd hM (by omega) dX7_unmounts_29 (fun H locs hM => ?_)
  refine lv_iload_n F.1.1 F.1.2.1 dX7_unmounts_30 rfl (lv_at hl 0 rfl) ?_
  exact mr_iret F hQ hM ⟨rfl, rfl⟩ (Nat.le_of_ble_eq_true rfl) (Nat.le_of_ble_eq_true rfl) dX7_unmounts_31
set_option maxHeartbeats 4000000 in
theorem ct_seeks (l : Launch) {G : mG} {ad : Nat → Nat} {g r : Nat → Int32} {f : Nat → UInt32} {h : tH} {b : Nat → Int32} {M0 : mM} {d : Nat} {x : Int32} (hd : tAd ad) (h1 : d < 4) : mMet l yX7_seeks (ws_ yX7_seeks cX7_seeks 4 (some .int)) (mRm 1 0 0) [.ref (ad 0), .int (nI d), .int x] G (pPre (tM G ad g r f h b M0)) (pPost (tM G ad g (va_up r (52 + d) x) f h b M0) (some (.int (mAb (x - r (52 + d)))))) := by
  refine mMet.of (by decide +kernel) (Nat.le_of_ble_eq_true rfl) fun p e s m args below meth c A Q M hM0 F hnm hQ hM ls hl => ?_
  have hM0 : M = tM G ad g r f h b M0 := hM0
  subst hM0
  have hl : lv_has ls 4 [(0, .ref (ad 0)), (1, .int (nI d)), (2, .int x)] := hl
  refine lv_iload_n F.1.1 F.1.2.1 dX7_seeks_0 rfl (lv_at hl 2 rfl) ?_
  refine lv_aload_n F.1.1 F.1.2.1 dX7_seeks_1 rfl (lv_at hl 0 rfl) ?_
  refine tr_get F hd hM 0 (by decide) q1720 rfl dX7_seeks_2 ?_
  refine mr_bipush F 52 dX7_seeks_5 (by decide +kernel) ?_
  refine lv_iload_n F.1.1 F.1.2.1 dX7_seeks_7 rfl (lv_at hl 1 rfl) ?_
  refine mr_iaddN F dX7_seeks_8 ?_
  refine tr_ld1 F hd hM (by omega) rfl dX7_seeks_9 ?_
  refine lv_isub F.1.1 F.1.2.1 dX7_seeks_10 ?_
  refine lv_istore_n (lv' := [(3, _), (0, _), (1, _), (2, _)]) F.1.1 F.1.2.1 dX7_seeks_11 rfl hl (by decide) rfl (fun ls hl => ?_)
  refine lv_aload_n F.1.1 F.1.2.1 dX7_seeks_12 rfl (lv_at hl 1 rfl) ?_
  refine tr_get F hd hM 0 (by decide) q1720 rfl dX7_seeks_13 ?_
  refine mr_bipush F 52 dX7_seeks_16 (by decide +kernel) ?_
  refine lv_iload_n F.1.1 F.1.2.1 dX7_seeks_18 rfl (lv_at hl 2 rfl) ?_
  refine mr_iaddN F dX7_seeks_19 ?_
  refine lv_iload_n F.1.1 F.1.2.1 dX7_seeks_20 rfl (lv_at hl 3 rfl) ?_
  refine tr_st1 F hd hM (by omega) dX7_seeks_21 (fun H locs hM => ?_)
  refine lv_iload_n F.1.1 F.1.2.1 dX7_seeks_22 rfl (lv_at hl 0 rfl) ?_
  refine lv_if_ge (tgt := 31) F.1.1 F.1.2.1 dX7_seeks_23 (by decide) (fun c23 => ?_) (fun c23 => ?_)
  · have hv : mAb (x - r (52 + d)) = x - r (52 + d) := if_pos c23
    refine lv_iload_n F.1.1 F.1.2.1 dX7_seeks_31 rfl (lv_at hl 0 rfl) ?_
    exact mr_iret F hQ hM ⟨by rw [hv], rfl⟩ (Nat.le_of_ble_eq_true rfl) (Nat.le_of_ble_eq_true rfl) dX7_seeks_32
  · have hv : mAb (x - r (52 + d)) = -(x - r (52 + d)) := if_neg c23
    refine lv_iload_n F.1.1 F.1.2.1 dX7_seeks_26 rfl (lv_at hl 0 rfl) ?_
    refine lv_ineg F.1.1 F.1.2.1 dX7_seeks_27 ?_
    refine lv_goto (tgt := 32) F.1.1 F.1.2.1 dX7_seeks_28 (by decide) ?_
    exact mr_iret F hQ hM ⟨by rw [hv], rfl⟩ (Nat.le_of_ble_eq_true rfl) (Nat.le_of_ble_eq_true rfl) dX7_seeks_32
set_option maxHeartbeats 4000000 in
theorem ct_rubs (l : Launch) {G : mG} {ad : Nat → Nat} {g r : Nat → Int32} {f : Nat → UInt32} {h : tH} {b : Nat → Int32} {M0 : mM} {d n p0 c0 : Nat} (hd : tAd ad) (hp : r (60 + d) = nI p0) (hc : r (52 + d) = nI c0) (hS : f (40 * (3 * p0 + n) + c0) ∈ fsL) (h1 : d < 4) (h2 : n < 3) (h3 : p0 < 6) (h4 : c0 < 40) : mMet l yX7_rubs (ws_ yX7_rubs cX7_rubs 5 none) (mRm 2 0 0) [.ref (ad 0), .int (nI d), .int (nI n)] G (pPre (tM G ad g r f h b M0)) (pPost (tM G ad g (nRubR r d n p0) (nRubF r f d n p0 c0) h b M0) (none)) := by
  refine mMet.of (by decide +kernel) (Nat.le_of_ble_eq_true rfl) fun p e s m args below meth c A Q M hM0 F hnm hQ hM ls hl => ?_
  have hM0 : M = tM G ad g r f h b M0 := hM0
  subst hM0
  have hl : lv_has ls 5 [(0, .ref (ad 0)), (1, .int (nI d)), (2, .int (nI n))] := hl
  refine lv_aload_n F.1.1 F.1.2.1 dX7_rubs_0 rfl (lv_at hl 0 rfl) ?_
  refine tr_get F hd hM 0 (by decide) q1720 rfl dX7_rubs_1 ?_
  refine mr_bipush F 60 dX7_rubs_4 (by decide +kernel) ?_
  refine lv_iload_n F.1.1 F.1.2.1 dX7_rubs_6 rfl (lv_at hl 1 rfl) ?_
  refine mr_iaddN F dX7_rubs_7 ?_
  refine tr_ld1 F hd hM (by omega) hp dX7_rubs_8 ?_
  refine lv_istore_n (lv' := [(3, _), (0, _), (1, _), (2, _)]) F.1.1 F.1.2.1 dX7_rubs_9 rfl hl (by decide) rfl (fun ls hl => ?_)
  refine lv_iload_n F.1.1 F.1.2.1 dX7_rubs_10 rfl (lv_at hl 2 rfl) ?_
  refine lv_iload_n F.1.1 F.1.2.1 dX7_rubs_11 rfl (lv_at hl 3 rfl) ?_
  refine mc_Sa (As := [_, _]) F hM (ct_head l ) (va_cwS 2 F.1.2.2.2.2 (lw_S q1793 q1794 q88 q1795) rfl rfl rfl (by decide +kernel) (mRm_ok (by decide) (by decide))) rfl rfl hl.1 rfl (Nat.le_of_ble_eq_true rfl) dX7_rubs_12 ⟨Nat.le_of_ble_eq_true rfl, Nat.le_of_ble_eq_true rfl⟩ (fun H locs hM => ?_)
  refine lv_istore (lv' := [(4, _), (3, _), (0, _), (1, _), (2, _)]) F.1.1 F.1.2.1 dX7_rubs_15 hl (by decide) rfl (fun ls hl => ?_)
  refine lv_aload_n F.1.1 F.1.2.1 dX7_rubs_17 rfl (lv_at hl 2 rfl) ?_
  refine tr_get F hd hM 0 (by decide) q1720 rfl dX7_rubs_18 ?_
  refine mr_bipush F 16 dX7_rubs_21 (by decide +kernel) ?_
  refine lv_iload F.1.1 F.1.2.1 dX7_rubs_23 (lv_at hl 0 rfl) ?_
  refine mr_iaddN F dX7_rubs_25 ?_
  refine tr_ld1 F hd hM (by omega) rfl dX7_rubs_26 ?_
  refine mr_iconst F 1 dX7_rubs_27 (by decide +kernel) ?_
  refine lv_icmp_ne (tgt := 71) F.1.1 F.1.2.1 dX7_rubs_28 (by decide) (fun c28 => ?_) (fun c28 => ?_)
  · refine lv_aload_n F.1.1 F.1.2.1 dX7_rubs_71 rfl (lv_at hl 2 rfl) ?_
    refine tr_get F hd hM 0 (by decide) q1720 rfl dX7_rubs_72 ?_
    refine mr_bipush F 96 dX7_rubs_75 (by decide +kernel) ?_
    refine mr_iconst F 3 dX7_rubs_77 (by decide +kernel) ?_
    refine lv_iload_n F.1.1 F.1.2.1 dX7_rubs_78 rfl (lv_at hl 1 rfl) ?_
    refine mr_imulN F dX7_rubs_79 ?_
    refine mr_iaddN F dX7_rubs_80 ?_
    refine lv_iload_n F.1.1 F.1.2.1 dX7_rubs_81 rfl (lv_at hl 4 rfl) ?_
    refine mr_iaddN F dX7_rubs_82 ?_
    refine tr_ld1 F hd hM (by omega) rfl dX7_rubs_83 ?_
    refine mr_iconst F 1 dX7_rubs_84 (by decide +kernel) ?_
    refine lv_icmp_ne (tgt := 138) F.1.1 F.1.2.1 dX7_rubs_85 (by decide) (fun c85 => ?_) (fun c85 => ?_)
    · have hR : nRubR r d n p0 = r := by unfold nRubR; rw [if_neg c28, if_neg c85]
      have hF : nRubF r f d n p0 c0 = f := by unfold nRubF; exact if_neg c28
      exact mr_vret F hQ hM ⟨rfl, by rw [hR, hF]⟩ (Nat.le_of_ble_eq_true rfl) (Nat.le_of_ble_eq_true rfl) dX7_rubs_138
    · refine lv_aload_n F.1.1 F.1.2.1 dX7_rubs_88 rfl (lv_at hl 2 rfl) ?_
      refine tr_get F hd hM 0 (by decide) q1720 rfl dX7_rubs_89 ?_
      refine mr_bipush F 32 dX7_rubs_92 (by decide +kernel) ?_
      refine lv_iload F.1.1 F.1.2.1 dX7_rubs_94 (lv_at hl 0 rfl) ?_
      refine mr_iaddN F dX7_rubs_96 ?_
      refine lv_dup2_11 F.1.1 F.1.2.1 dX7_rubs_97 rfl rfl ?_
      refine tr_ld1 F hd hM (by omega) rfl dX7_rubs_98 ?_
      refine mr_iconst F 1 dX7_rubs_99 (by decide +kernel) ?_
      refine lv_iadd F.1.1 F.1.2.1 dX7_rubs_100 ?_
      refine tr_st1 F hd hM (by omega) dX7_rubs_101 (fun H locs hM => ?_)
      refine lv_aload_n F.1.1 F.1.2.1 dX7_rubs_102 rfl (lv_at hl 2 rfl) ?_
      refine tr_get F hd hM 0 (by decide) q1720 rfl dX7_rubs_103 ?_
      refine mr_bipush F 32 dX7_rubs_106 (by decide +kernel) ?_
      refine lv_iload F.1.1 F.1.2.1 dX7_rubs_108 (lv_at hl 0 rfl) ?_
      refine mr_iaddN F dX7_rubs_110 ?_
      refine tr_ld1 F hd hM (by omega) (va_up_self _ _ _) dX7_rubs_111 ?_
      refine mr_iconst F 3 dX7_rubs_112 (by decide +kernel) ?_
      refine lv_icmp_ne (tgt := 138) F.1.1 F.1.2.1 dX7_rubs_113 (by decide) (fun c113 => ?_) (fun c113 => ?_)
      · have hR : nRubR r d n p0 = va_up r (32 + (4 * d + n)) (r (32 + (4 * d + n)) + nI 1) := by unfold nRubR; rw [if_neg c28, if_pos c85, if_neg c113]
        have hF : nRubF r f d n p0 c0 = f := by unfold nRubF; exact if_neg c28
        exact mr_vret F hQ hM ⟨rfl, by rw [hR, hF]⟩ (Nat.le_of_ble_eq_true rfl) (Nat.le_of_ble_eq_true rfl) dX7_rubs_138
      · have hR : nRubR r d n p0 = va_up (va_up (va_up r (32 + (4 * d + n)) (r (32 + (4 * d + n)) + nI 1)) (16 + (4 * d + n)) (nI 1)) (32 + (4 * d + n)) (nI 0) := by unfold nRubR; rw [if_neg c28, if_pos c85, if_pos c113]
        have hF : nRubF r f d n p0 c0 = f := by unfold nRubF; exact if_neg c28
        refine lv_aload_n F.1.1 F.1.2.1 dX7_rubs_116 rfl (lv_at hl 2 rfl) ?_
        refine tr_get F hd hM 0 (by decide) q1720 rfl dX7_rubs_117 ?_
        refine mr_bipush F 16 dX7_rubs_120 (by decide +kernel) ?_
        refine lv_iload F.1.1 F.1.2.1 dX7_rubs_122 (lv_at hl 0 rfl) ?_
        refine mr_iaddN F dX7_rubs_124 ?_
        refine mr_iconst F 1 dX7_rubs_125 (by decide +kernel) ?_
        refine tr_st1 F hd hM (by omega) dX7_rubs_126 (fun H locs hM => ?_)
        refine lv_aload_n F.1.1 F.1.2.1 dX7_rubs_127 rfl (lv_at hl 2 rfl) ?_
        refine tr_get F hd hM 0 (by decide) q1720 rfl dX7_rubs_128 ?_
        refine mr_bipush F 32 dX7_rubs_131 (by decide +kernel) ?_
        refine lv_iload F.1.1 F.1.2.1 dX7_rubs_133 (lv_at hl 0 rfl) ?_
        refine mr_iaddN F dX7_rubs_135 ?_
        refine mr_iconst F 0 dX7_rubs_136 (by decide +kernel) ?_
        refine tr_st1 F hd hM (by omega) dX7_rubs_137 (fun H locs hM => ?_)
        exact mr_vret F hQ hM ⟨rfl, by rw [hR, hF]⟩ (Nat.le_of_ble_eq_true rfl) (Nat.le_of_ble_eq_true rfl) dX7_rubs_138
  · have hR : nRubR r d n p0 = va_up r (96 + 3 * p0 + n) (nI 1) := by unfold nRubR; exact if_pos c28
    have hF : nRubF r f d n p0 c0 = va_up f (40 * (3 * p0 + n) + c0) (FP.fdiv (f (40 * (3 * p0 + n) + c0)) FP.fconst2) := by unfold nRubF; exact if_pos c28
    refine lv_aload_n F.1.1 F.1.2.1 dX7_rubs_31 rfl (lv_at hl 2 rfl) ?_
    refine tr_get F hd hM 0 (by decide) q1720 rfl dX7_rubs_32 ?_
    refine mr_bipush F 96 dX7_rubs_35 (by decide +kernel) ?_
    refine mr_iconst F 3 dX7_rubs_37 (by decide +kernel) ?_
    refine lv_iload_n F.1.1 F.1.2.1 dX7_rubs_38 rfl (lv_at hl 1 rfl) ?_
    refine mr_imulN F dX7_rubs_39 ?_
    refine mr_iaddN F dX7_rubs_40 ?_
    refine lv_iload_n F.1.1 F.1.2.1 dX7_rubs_41 rfl (lv_at hl 4 rfl) ?_
    refine mr_iaddN F dX7_rubs_42 ?_
    refine mr_iconst F 1 dX7_rubs_43 (by decide +kernel) ?_
    refine tr_st1 F hd hM (by omega) dX7_rubs_44 (fun H locs hM => ?_)
    refine lv_aload_n F.1.1 F.1.2.1 dX7_rubs_45 rfl (lv_at hl 2 rfl) ?_
    refine tr_get F hd hM 1 (by decide) q1721 rfl dX7_rubs_46 ?_
    refine lv_iload_n F.1.1 F.1.2.1 dX7_rubs_49 rfl (lv_at hl 1 rfl) ?_
    refine lv_iload_n F.1.1 F.1.2.1 dX7_rubs_50 rfl (lv_at hl 4 rfl) ?_
    refine lv_aload_n F.1.1 F.1.2.1 dX7_rubs_51 rfl (lv_at hl 2 rfl) ?_
    refine tr_get F hd hM 0 (by decide) q1720 rfl dX7_rubs_52 ?_
    refine mr_bipush F 52 dX7_rubs_55 (by decide +kernel) ?_
    refine lv_iload_n F.1.1 F.1.2.1 dX7_rubs_57 rfl (lv_at hl 3 rfl) ?_
    refine mr_iaddN F dX7_rubs_58 ?_
    refine tr_ld1 F hd hM (by omega) ((va_up_ne _ _ (by omega)).trans hc) dX7_rubs_59 ?_
    refine mc_Sa (As := [_, _, _]) F hM (ct_track l ) (va_cwS 3 F.1.2.2.2.2 (lw_S q1894 q1895 q88 q1896) rfl rfl rfl (by decide +kernel) (mRm_ok (by decide) (by decide))) rfl rfl hl.1 rfl (Nat.le_of_ble_eq_true rfl) dX7_rubs_60 ⟨Nat.le_of_ble_eq_true rfl, Nat.le_of_ble_eq_true rfl⟩ (fun H locs hM => ?_)
    refine lv_dup2_11 F.1.1 F.1.2.1 dX7_rubs_63 rfl rfl ?_
    refine tr_ld2 F hd hM (by omega) rfl dX7_rubs_64 ?_
    refine lv_fconst2 F.1.1 F.1.2.1 dX7_rubs_65 ?_
    refine lv_fdiv F.1.1 F.1.2.1 dX7_rubs_66 (fs_halfN' hS) ?_
    refine tr_st2 F hd hM (by omega) dX7_rubs_67 (fun H locs hM => ?_)
    refine lv_goto (tgt := 138) F.1.1 F.1.2.1 dX7_rubs_68 (by decide) ?_
    exact mr_vret F hQ hM ⟨rfl, by rw [hR, hF]⟩ (Nat.le_of_ble_eq_true rfl) (Nat.le_of_ble_eq_true rfl) dX7_rubs_138
set_option maxHeartbeats 4000000 in
theorem ct_writes (l : Launch) {G : mG} {ad : Nat → Nat} {g r : Nat → Int32} {f : Nat → UInt32} {h : tH} {b : Nat → Int32} {M0 : mM} {d n p0 c0 : Nat} {v : Int32} (hd : tAd ad) (hp : r (60 + d) = nI p0) (hc : r (52 + d) = nI c0) (h1 : d < 4) (h2 : n < 3) (h3 : p0 < 6) (h4 : c0 < 40) : mMet l yX7_writes (ws_ yX7_writes cX7_writes 8 (some .int)) (mRm 3 0 0) [.ref (ad 0), .int (nI d), .int (nI n), .int v] G (pPre (tM G ad g r f h b M0)) (pPost (tM G ad g (nRubR (nWrR r d n p0 c0 v) d n p0) (nRubF (nWrR r d n p0 c0 v) (nWrF r f d n p0 c0) d n p0 c0) h b M0) (some (.int (mPl r d n p0 c0)))) := by
  refine mMet.of (by decide +kernel) (Nat.le_of_ble_eq_true rfl) fun p e s m args below meth c A Q M hM0 F hnm hQ hM ls hl => ?_
  have hM0 : M = tM G ad g r f h b M0 := hM0
  subst hM0
  have hl : lv_has ls 8 [(0, .ref (ad 0)), (1, .int (nI d)), (2, .int (nI n)), (3, .int v)] := hl
  refine lv_aload_n F.1.1 F.1.2.1 dX7_writes_0 rfl (lv_at hl 0 rfl) ?_
  refine tr_get F hd hM 0 (by decide) q1720 rfl dX7_writes_1 ?_
  refine mr_bipush F 60 dX7_writes_4 (by decide +kernel) ?_
  refine lv_iload_n F.1.1 F.1.2.1 dX7_writes_6 rfl (lv_at hl 1 rfl) ?_
  refine mr_iaddN F dX7_writes_7 ?_
  refine tr_ld1 F hd hM (by omega) hp dX7_writes_8 ?_
  refine lv_iload_n F.1.1 F.1.2.1 dX7_writes_9 rfl (lv_at hl 2 rfl) ?_
  refine lv_aload_n F.1.1 F.1.2.1 dX7_writes_10 rfl (lv_at hl 0 rfl) ?_
  refine tr_get F hd hM 0 (by decide) q1720 rfl dX7_writes_11 ?_
  refine mr_bipush F 52 dX7_writes_14 (by decide +kernel) ?_
  refine lv_iload_n F.1.1 F.1.2.1 dX7_writes_16 rfl (lv_at hl 1 rfl) ?_
  refine mr_iaddN F dX7_writes_17 ?_
  refine tr_ld1 F hd hM (by omega) hc dX7_writes_18 ?_
  refine mc_Sa (As := [_, _, _]) F hM (ct_track l ) (va_cwS 3 F.1.2.2.2.2 (lw_S q1894 q1895 q88 q1896) rfl rfl rfl (by decide +kernel) (mRm_ok (by decide) (by decide))) rfl rfl hl.1 rfl (Nat.le_of_ble_eq_true rfl) dX7_writes_19 ⟨Nat.le_of_ble_eq_true rfl, Nat.le_of_ble_eq_true rfl⟩ (fun H locs hM => ?_)
  refine lv_istore (lv' := [(4, _), (0, _), (1, _), (2, _), (3, _)]) F.1.1 F.1.2.1 dX7_writes_22 hl (by decide) rfl (fun ls hl => ?_)
  refine lv_aload_n F.1.1 F.1.2.1 dX7_writes_24 rfl (lv_at hl 1 rfl) ?_
  refine lv_iload_n F.1.1 F.1.2.1 dX7_writes_25 rfl (lv_at hl 2 rfl) ?_
  refine lv_iload_n F.1.1 F.1.2.1 dX7_writes_26 rfl (lv_at hl 3 rfl) ?_
  refine lv_aload_n F.1.1 F.1.2.1 dX7_writes_27 rfl (lv_at hl 1 rfl) ?_
  refine tr_get F hd hM 0 (by decide) q1720 rfl dX7_writes_28 ?_
  refine mr_bipush F 60 dX7_writes_31 (by decide +kernel) ?_
  refine lv_iload_n F.1.1 F.1.2.1 dX7_writes_33 rfl (lv_at hl 2 rfl) ?_
  refine mr_iaddN F dX7_writes_34 ?_
  refine tr_ld1 F hd hM (by omega) hp dX7_writes_35 ?_
  refine lv_aload_n F.1.1 F.1.2.1 dX7_writes_36 rfl (lv_at hl 1 rfl) ?_
  refine tr_get F hd hM 0 (by decide) q1720 rfl dX7_writes_37 ?_
  refine mr_bipush F 52 dX7_writes_40 (by decide +kernel) ?_
  refine lv_iload_n F.1.1 F.1.2.1 dX7_writes_42 rfl (lv_at hl 2 rfl) ?_
  refine mr_iaddN F dX7_writes_43 ?_
  refine tr_ld1 F hd hM (by omega) hc dX7_writes_44 ?_
  refine mc_Va (As := [_, _, _, _]) F hM (ct_place l hd (by omega) (by omega) (by omega)) (cwV 4 F.1.2.2.2.2 (lw_V q1897 q1899 qs49 q88 q1900) rfl rfl rfl (by decide +kernel) (mRm_ok (by decide) (by decide))) (tM_0 hd) rfl rfl rfl rfl hl.1 rfl (Nat.le_of_ble_eq_true rfl) dX7_writes_45 ⟨Nat.le_of_ble_eq_true rfl, Nat.le_of_ble_eq_true rfl⟩ (fun H locs hM => ?_)
  refine lv_istore (lv' := [(5, _), (4, _), (0, _), (1, _), (2, _), (3, _)]) F.1.1 F.1.2.1 dX7_writes_48 hl (by decide) rfl (fun ls hl => ?_)
  refine lv_iload F.1.1 F.1.2.1 dX7_writes_50 (lv_at hl 0 rfl) ?_
  refine lv_aload_n F.1.1 F.1.2.1 dX7_writes_52 rfl (lv_at hl 2 rfl) ?_
  refine tr_get F hd hM 0 (by decide) q1720 rfl dX7_writes_53 ?_
  refine mr_sipush F 846 dX7_writes_56 (by decide +kernel) ?_
  refine lv_iload F.1.1 F.1.2.1 dX7_writes_59 (lv_at hl 1 rfl) ?_
  refine mr_iaddN F dX7_writes_61 ?_
  refine tr_ld1 F hd hM (by omega) rfl dX7_writes_62 ?_
  refine lv_isub F.1.1 F.1.2.1 dX7_writes_63 ?_
  refine lv_istore (lv' := [(6, _), (5, _), (4, _), (0, _), (1, _), (2, _), (3, _)]) F.1.1 F.1.2.1 dX7_writes_64 hl (by decide) rfl (fun ls hl => ?_)
  refine lv_aload_n F.1.1 F.1.2.1 dX7_writes_66 rfl (lv_at hl 3 rfl) ?_
  refine tr_get F hd hM 0 (by decide) q1720 rfl dX7_writes_67 ?_
  refine mr_bipush F 16 dX7_writes_70 (by decide +kernel) ?_
  refine lv_iload_n F.1.1 F.1.2.1 dX7_writes_72 rfl (lv_at hl 4 rfl) ?_
  refine lv_iload_n F.1.1 F.1.2.1 dX7_writes_73 rfl (lv_at hl 5 rfl) ?_
  refine mc_Sa (As := [_, _]) F hM (ct_head l ) (va_cwS 2 F.1.2.2.2.2 (lw_S q1793 q1794 q88 q1795) rfl rfl rfl (by decide +kernel) (mRm_ok (by decide) (by decide))) rfl rfl hl.1 rfl (Nat.le_of_ble_eq_true rfl) dX7_writes_74 ⟨Nat.le_of_ble_eq_true rfl, Nat.le_of_ble_eq_true rfl⟩ (fun H locs hM => ?_)
  refine mr_iaddN F dX7_writes_77 ?_
  refine tr_ld1 F hd hM (by omega) rfl dX7_writes_78 ?_
  refine mr_iconst F 1 dX7_writes_79 (by decide +kernel) ?_
  refine lv_icmp_ne (tgt := 88) F.1.1 F.1.2.1 dX7_writes_80 (by decide) (fun c80 => ?_) (fun c80 => ?_)
  · have hits : (if r (16 + (4 * d + n)) = nI 1 then f05 else FP.fconst1) = FP.fconst1 := if_neg c80
    by_cases hu : True
    · refine lv_fconst1 F.1.1 F.1.2.1 dX7_writes_88 ?_
      refine lv_fstore (lv' := [(7, _), (6, _), (5, _), (4, _), (0, _), (1, _), (2, _), (3, _)]) F.1.1 F.1.2.1 dX7_writes_89 hl (by decide) rfl (fun ls hl => ?_)
      refine lv_aload_n F.1.1 F.1.2.1 dX7_writes_91 rfl (lv_at hl 4 rfl) ?_
      refine tr_get F hd hM 1 (by decide) q1721 rfl dX7_writes_92 ?_
      refine lv_iload F.1.1 F.1.2.1 dX7_writes_95 (lv_at hl 3 rfl) ?_
      refine lv_aload_n F.1.1 F.1.2.1 dX7_writes_97 rfl (lv_at hl 4 rfl) ?_
      refine tr_get F hd hM 0 (by decide) q1720 rfl dX7_writes_98 ?_
      refine mr_bipush F 126 dX7_writes_101 (by decide +kernel) ?_
      refine lv_iload F.1.1 F.1.2.1 dX7_writes_103 (lv_at hl 3 rfl) ?_
      refine mr_iaddN F dX7_writes_105 ?_
      refine tr_ld1 F hd hM (by omega) rfl dX7_writes_106 ?_
      refine lv_iconst (v := -1) F.1.1 F.1.2.1 dX7_writes_107 (by decide +kernel) ?_
      refine lv_icmp_eq (tgt := 133) F.1.1 F.1.2.1 dX7_writes_108 (by decide) (fun c108 => ?_) (fun c108 => ?_)
      · have hw : nWrS r d n p0 c0 = FP.fconst1 := by
          unfold nWrS
          rw [hits]
          exact if_neg (fun q => q.1 c108)
        refine lv_fload F.1.1 F.1.2.1 dX7_writes_133 (lv_at hl 0 rfl) ?_
        refine tr_st2 F hd hM (by omega) dX7_writes_135 (fun H locs hM => ?_)
        refine lv_aload_n F.1.1 F.1.2.1 dX7_writes_136 rfl (lv_at hl 4 rfl) ?_
        refine tr_get F hd hM 0 (by decide) q1720 rfl dX7_writes_137 ?_
        refine mr_bipush F 126 dX7_writes_140 (by decide +kernel) ?_
        refine lv_iload F.1.1 F.1.2.1 dX7_writes_142 (lv_at hl 3 rfl) ?_
        refine mr_iaddN F dX7_writes_144 ?_
        refine lv_iload_n F.1.1 F.1.2.1 dX7_writes_145 rfl (lv_at hl 7 rfl) ?_
        refine tr_st1 F hd hM (by omega) dX7_writes_146 (fun H locs hM => ?_)
        refine lv_aload_n F.1.1 F.1.2.1 dX7_writes_147 rfl (lv_at hl 4 rfl) ?_
        refine tr_get F hd hM 0 (by decide) q1720 rfl dX7_writes_148 ?_
        refine mr_sipush F 846 dX7_writes_151 (by decide +kernel) ?_
        refine lv_iload F.1.1 F.1.2.1 dX7_writes_154 (lv_at hl 3 rfl) ?_
        refine mr_iaddN F dX7_writes_156 ?_
        refine lv_iload F.1.1 F.1.2.1 dX7_writes_157 (lv_at hl 2 rfl) ?_
        refine tr_st1 F hd hM (by omega) dX7_writes_159 (fun H locs hM => ?_)
        have hSt := nWrS_fs r d n p0 c0
        rw [hw] at hSt
        refine lv_aload_n F.1.1 F.1.2.1 dX7_writes_160 rfl (lv_at hl 4 rfl) ?_
        refine lv_iload_n F.1.1 F.1.2.1 dX7_writes_161 rfl (lv_at hl 5 rfl) ?_
        refine lv_iload_n F.1.1 F.1.2.1 dX7_writes_162 rfl (lv_at hl 6 rfl) ?_
        refine mc_Vv (As := [_, _]) F hM (ct_rubs l hd (by show nWrR r d n p0 c0 v (60 + d) = nI p0; rw [nWrR_at (by omega)]; exact hp) (by show nWrR r d n p0 c0 v (52 + d) = nI c0; rw [nWrR_at (by omega)]; exact hc) (by rw [va_up_self]; exact hSt) h1 h2 h3 h4) (cwV 2 F.1.2.2.2.2 (lw_V q1903 q1905 qs50 q88 q1906) rfl rfl rfl (by decide +kernel) (mRm_ok (by decide) (by decide))) (tM_0 hd) rfl rfl rfl rfl hl.1 rfl (Nat.le_of_ble_eq_true rfl) dX7_writes_163 ⟨Nat.le_of_ble_eq_true rfl, Nat.le_of_ble_eq_true rfl⟩ (fun H locs hM => ?_)
        refine lv_iload F.1.1 F.1.2.1 dX7_writes_166 (lv_at hl 2 rfl) ?_
        exact mr_iret F hQ hM ⟨rfl, by unfold nWrF; rw [hw]; rfl⟩ (Nat.le_of_ble_eq_true rfl) (Nat.le_of_ble_eq_true rfl) dX7_writes_168
      · refine lv_iload F.1.1 F.1.2.1 dX7_writes_111 (lv_at hl 1 rfl) ?_
        refine mr_bipush F 10 dX7_writes_113 (by decide +kernel) ?_
        refine lv_icmp_gt (tgt := 125) F.1.1 F.1.2.1 dX7_writes_115 (by decide) (fun c115 => ?_) (fun c115 => ?_)
        · have hw : nWrS r d n p0 c0 = FP.fmul FP.fconst1 f75 := by
            unfold nWrS
            rw [hits]
            exact if_pos ⟨c108, Or.inl c115⟩
          refine lv_fload F.1.1 F.1.2.1 dX7_writes_125 (lv_at hl 0 rfl) ?_
          refine lv_ldcf F.1.1 F.1.2.1 F.1.2.2.2.1 (F.1.2.2.2.2 _ q1902) dX7_writes_127 ?_
          refine lv_fmul F.1.1 F.1.2.1 dX7_writes_129 fs_75_1n ?_
          refine lv_goto (tgt := 135) F.1.1 F.1.2.1 dX7_writes_130 (by decide) ?_
          refine tr_st2 F hd hM (by omega) dX7_writes_135 (fun H locs hM => ?_)
          refine lv_aload_n F.1.1 F.1.2.1 dX7_writes_136 rfl (lv_at hl 4 rfl) ?_
          refine tr_get F hd hM 0 (by decide) q1720 rfl dX7_writes_137 ?_
          refine mr_bipush F 126 dX7_writes_140 (by decide +kernel) ?_
          refine lv_iload F.1.1 F.1.2.1 dX7_writes_142 (lv_at hl 3 rfl) ?_
          refine mr_iaddN F dX7_writes_144 ?_
          refine lv_iload_n F.1.1 F.1.2.1 dX7_writes_145 rfl (lv_at hl 7 rfl) ?_
          refine tr_st1 F hd hM (by omega) dX7_writes_146 (fun H locs hM => ?_)
          refine lv_aload_n F.1.1 F.1.2.1 dX7_writes_147 rfl (lv_at hl 4 rfl) ?_
          refine tr_get F hd hM 0 (by decide) q1720 rfl dX7_writes_148 ?_
          refine mr_sipush F 846 dX7_writes_151 (by decide +kernel) ?_
          refine lv_iload F.1.1 F.1.2.1 dX7_writes_154 (lv_at hl 3 rfl) ?_
          refine mr_iaddN F dX7_writes_156 ?_
          refine lv_iload F.1.1 F.1.2.1 dX7_writes_157 (lv_at hl 2 rfl) ?_
          refine tr_st1 F hd hM (by omega) dX7_writes_159 (fun H locs hM => ?_)
          have hSt := nWrS_fs r d n p0 c0
          rw [hw] at hSt
          refine lv_aload_n F.1.1 F.1.2.1 dX7_writes_160 rfl (lv_at hl 4 rfl) ?_
          refine lv_iload_n F.1.1 F.1.2.1 dX7_writes_161 rfl (lv_at hl 5 rfl) ?_
          refine lv_iload_n F.1.1 F.1.2.1 dX7_writes_162 rfl (lv_at hl 6 rfl) ?_
          refine mc_Vv (As := [_, _]) F hM (ct_rubs l hd (by show nWrR r d n p0 c0 v (60 + d) = nI p0; rw [nWrR_at (by omega)]; exact hp) (by show nWrR r d n p0 c0 v (52 + d) = nI c0; rw [nWrR_at (by omega)]; exact hc) (by rw [va_up_self]; exact hSt) h1 h2 h3 h4) (cwV 2 F.1.2.2.2.2 (lw_V q1903 q1905 qs50 q88 q1906) rfl rfl rfl (by decide +kernel) (mRm_ok (by decide) (by decide))) (tM_0 hd) rfl rfl rfl rfl hl.1 rfl (Nat.le_of_ble_eq_true rfl) dX7_writes_163 ⟨Nat.le_of_ble_eq_true rfl, Nat.le_of_ble_eq_true rfl⟩ (fun H locs hM => ?_)
          refine lv_iload F.1.1 F.1.2.1 dX7_writes_166 (lv_at hl 2 rfl) ?_
          exact mr_iret F hQ hM ⟨rfl, by unfold nWrF; rw [hw]; rfl⟩ (Nat.le_of_ble_eq_true rfl) (Nat.le_of_ble_eq_true rfl) dX7_writes_168
        · refine lv_iload F.1.1 F.1.2.1 dX7_writes_118 (lv_at hl 1 rfl) ?_
          refine lv_bipush (v := -10) F.1.1 F.1.2.1 dX7_writes_120 (by decide +kernel) ?_
          refine lv_icmp_ge (tgt := 133) F.1.1 F.1.2.1 dX7_writes_122 (by decide) (fun c122 => ?_) (fun c122 => ?_)
          · have hw : nWrS r d n p0 c0 = FP.fconst1 := by
              unfold nWrS
              rw [hits]
              exact if_neg (fun q => q.2.elim c115 (fun z => absurd z (Int32.not_lt.mpr c122)))
            refine lv_fload F.1.1 F.1.2.1 dX7_writes_133 (lv_at hl 0 rfl) ?_
            refine tr_st2 F hd hM (by omega) dX7_writes_135 (fun H locs hM => ?_)
            refine lv_aload_n F.1.1 F.1.2.1 dX7_writes_136 rfl (lv_at hl 4 rfl) ?_
            refine tr_get F hd hM 0 (by decide) q1720 rfl dX7_writes_137 ?_
            refine mr_bipush F 126 dX7_writes_140 (by decide +kernel) ?_
            refine lv_iload F.1.1 F.1.2.1 dX7_writes_142 (lv_at hl 3 rfl) ?_
            refine mr_iaddN F dX7_writes_144 ?_
            refine lv_iload_n F.1.1 F.1.2.1 dX7_writes_145 rfl (lv_at hl 7 rfl) ?_
            refine tr_st1 F hd hM (by omega) dX7_writes_146 (fun H locs hM => ?_)
            refine lv_aload_n F.1.1 F.1.2.1 dX7_writes_147 rfl (lv_at hl 4 rfl) ?_
            refine tr_get F hd hM 0 (by decide) q1720 rfl dX7_writes_148 ?_
            refine mr_sipush F 846 dX7_writes_151 (by decide +kernel) ?_
            refine lv_iload F.1.1 F.1.2.1 dX7_writes_154 (lv_at hl 3 rfl) ?_
            refine mr_iaddN F dX7_writes_156 ?_
            refine lv_iload F.1.1 F.1.2.1 dX7_writes_157 (lv_at hl 2 rfl) ?_
            refine tr_st1 F hd hM (by omega) dX7_writes_159 (fun H locs hM => ?_)
            have hSt := nWrS_fs r d n p0 c0
            rw [hw] at hSt
            refine lv_aload_n F.1.1 F.1.2.1 dX7_writes_160 rfl (lv_at hl 4 rfl) ?_
            refine lv_iload_n F.1.1 F.1.2.1 dX7_writes_161 rfl (lv_at hl 5 rfl) ?_
            refine lv_iload_n F.1.1 F.1.2.1 dX7_writes_162 rfl (lv_at hl 6 rfl) ?_
            refine mc_Vv (As := [_, _]) F hM (ct_rubs l hd (by show nWrR r d n p0 c0 v (60 + d) = nI p0; rw [nWrR_at (by omega)]; exact hp) (by show nWrR r d n p0 c0 v (52 + d) = nI c0; rw [nWrR_at (by omega)]; exact hc) (by rw [va_up_self]; exact hSt) h1 h2 h3 h4) (cwV 2 F.1.2.2.2.2 (lw_V q1903 q1905 qs50 q88 q1906) rfl rfl rfl (by decide +kernel) (mRm_ok (by decide) (by decide))) (tM_0 hd) rfl rfl rfl rfl hl.1 rfl (Nat.le_of_ble_eq_true rfl) dX7_writes_163 ⟨Nat.le_of_ble_eq_true rfl, Nat.le_of_ble_eq_true rfl⟩ (fun H locs hM => ?_)
            refine lv_iload F.1.1 F.1.2.1 dX7_writes_166 (lv_at hl 2 rfl) ?_
            exact mr_iret F hQ hM ⟨rfl, by unfold nWrF; rw [hw]; rfl⟩ (Nat.le_of_ble_eq_true rfl) (Nat.le_of_ble_eq_true rfl) dX7_writes_168
          · have hw : nWrS r d n p0 c0 = FP.fmul FP.fconst1 f75 := by
              unfold nWrS
              rw [hits]
              exact if_pos ⟨c108, Or.inr (Int32.not_le.mp c122)⟩
            refine lv_fload F.1.1 F.1.2.1 dX7_writes_125 (lv_at hl 0 rfl) ?_
            refine lv_ldcf F.1.1 F.1.2.1 F.1.2.2.2.1 (F.1.2.2.2.2 _ q1902) dX7_writes_127 ?_
            refine lv_fmul F.1.1 F.1.2.1 dX7_writes_129 fs_75_1n ?_
            refine lv_goto (tgt := 135) F.1.1 F.1.2.1 dX7_writes_130 (by decide) ?_
            refine tr_st2 F hd hM (by omega) dX7_writes_135 (fun H locs hM => ?_)
            refine lv_aload_n F.1.1 F.1.2.1 dX7_writes_136 rfl (lv_at hl 4 rfl) ?_
            refine tr_get F hd hM 0 (by decide) q1720 rfl dX7_writes_137 ?_
            refine mr_bipush F 126 dX7_writes_140 (by decide +kernel) ?_
            refine lv_iload F.1.1 F.1.2.1 dX7_writes_142 (lv_at hl 3 rfl) ?_
            refine mr_iaddN F dX7_writes_144 ?_
            refine lv_iload_n F.1.1 F.1.2.1 dX7_writes_145 rfl (lv_at hl 7 rfl) ?_
            refine tr_st1 F hd hM (by omega) dX7_writes_146 (fun H locs hM => ?_)
            refine lv_aload_n F.1.1 F.1.2.1 dX7_writes_147 rfl (lv_at hl 4 rfl) ?_
            refine tr_get F hd hM 0 (by decide) q1720 rfl dX7_writes_148 ?_
            refine mr_sipush F 846 dX7_writes_151 (by decide +kernel) ?_
            refine lv_iload F.1.1 F.1.2.1 dX7_writes_154 (lv_at hl 3 rfl) ?_
            refine mr_iaddN F dX7_writes_156 ?_
            refine lv_iload F.1.1 F.1.2.1 dX7_writes_157 (lv_at hl 2 rfl) ?_
            refine tr_st1 F hd hM (by omega) dX7_writes_159 (fun H locs hM => ?_)
            have hSt := nWrS_fs r d n p0 c0
            rw [hw] at hSt
            refine lv_aload_n F.1.1 F.1.2.1 dX7_writes_160 rfl (lv_at hl 4 rfl) ?_
            refine lv_iload_n F.1.1 F.1.2.1 dX7_writes_161 rfl (lv_at hl 5 rfl) ?_
            refine lv_iload_n F.1.1 F.1.2.1 dX7_writes_162 rfl (lv_at hl 6 rfl) ?_
            refine mc_Vv (As := [_, _]) F hM (ct_rubs l hd (by show nWrR r d n p0 c0 v (60 + d) = nI p0; rw [nWrR_at (by omega)]; exact hp) (by show nWrR r d n p0 c0 v (52 + d) = nI c0; rw [nWrR_at (by omega)]; exact hc) (by rw [va_up_self]; exact hSt) h1 h2 h3 h4) (cwV 2 F.1.2.2.2.2 (lw_V q1903 q1905 qs50 q88 q1906) rfl rfl rfl (by decide +kernel) (mRm_ok (by decide) (by decide))) (tM_0 hd) rfl rfl rfl rfl hl.1 rfl (Nat.le_of_ble_eq_true rfl) dX7_writes_163 ⟨Nat.le_of_ble_eq_true rfl, Nat.le_of_ble_eq_true rfl⟩ (fun H locs hM => ?_)
            refine lv_iload F.1.1 F.1.2.1 dX7_writes_166 (lv_at hl 2 rfl) ?_
            exact mr_iret F hQ hM ⟨rfl, by unfold nWrF; rw [hw]; rfl⟩ (Nat.le_of_ble_eq_true rfl) (Nat.le_of_ble_eq_true rfl) dX7_writes_168
    · exact absurd trivial hu
  · have hits : (if r (16 + (4 * d + n)) = nI 1 then f05 else FP.fconst1) = f05 := if_pos c80
    by_cases hu : True
    · refine lv_ldcf F.1.1 F.1.2.1 F.1.2.2.2.1 (F.1.2.2.2.2 _ q1901) dX7_writes_83 ?_
      refine lv_goto (tgt := 89) F.1.1 F.1.2.1 dX7_writes_85 (by decide) ?_
      refine lv_fstore (lv' := [(7, _), (6, _), (5, _), (4, _), (0, _), (1, _), (2, _), (3, _)]) F.1.1 F.1.2.1 dX7_writes_89 hl (by decide) rfl (fun ls hl => ?_)
      refine lv_aload_n F.1.1 F.1.2.1 dX7_writes_91 rfl (lv_at hl 4 rfl) ?_
      refine tr_get F hd hM 1 (by decide) q1721 rfl dX7_writes_92 ?_
      refine lv_iload F.1.1 F.1.2.1 dX7_writes_95 (lv_at hl 3 rfl) ?_
      refine lv_aload_n F.1.1 F.1.2.1 dX7_writes_97 rfl (lv_at hl 4 rfl) ?_
      refine tr_get F hd hM 0 (by decide) q1720 rfl dX7_writes_98 ?_
      refine mr_bipush F 126 dX7_writes_101 (by decide +kernel) ?_
      refine lv_iload F.1.1 F.1.2.1 dX7_writes_103 (lv_at hl 3 rfl) ?_
      refine mr_iaddN F dX7_writes_105 ?_
      refine tr_ld1 F hd hM (by omega) rfl dX7_writes_106 ?_
      refine lv_iconst (v := -1) F.1.1 F.1.2.1 dX7_writes_107 (by decide +kernel) ?_
      refine lv_icmp_eq (tgt := 133) F.1.1 F.1.2.1 dX7_writes_108 (by decide) (fun c108 => ?_) (fun c108 => ?_)
      · have hw : nWrS r d n p0 c0 = f05 := by
          unfold nWrS
          rw [hits]
          exact if_neg (fun q => q.1 c108)
        refine lv_fload F.1.1 F.1.2.1 dX7_writes_133 (lv_at hl 0 rfl) ?_
        refine tr_st2 F hd hM (by omega) dX7_writes_135 (fun H locs hM => ?_)
        refine lv_aload_n F.1.1 F.1.2.1 dX7_writes_136 rfl (lv_at hl 4 rfl) ?_
        refine tr_get F hd hM 0 (by decide) q1720 rfl dX7_writes_137 ?_
        refine mr_bipush F 126 dX7_writes_140 (by decide +kernel) ?_
        refine lv_iload F.1.1 F.1.2.1 dX7_writes_142 (lv_at hl 3 rfl) ?_
        refine mr_iaddN F dX7_writes_144 ?_
        refine lv_iload_n F.1.1 F.1.2.1 dX7_writes_145 rfl (lv_at hl 7 rfl) ?_
        refine tr_st1 F hd hM (by omega) dX7_writes_146 (fun H locs hM => ?_)
        refine lv_aload_n F.1.1 F.1.2.1 dX7_writes_147 rfl (lv_at hl 4 rfl) ?_
        refine tr_get F hd hM 0 (by decide) q1720 rfl dX7_writes_148 ?_
        refine mr_sipush F 846 dX7_writes_151 (by decide +kernel) ?_
        refine lv_iload F.1.1 F.1.2.1 dX7_writes_154 (lv_at hl 3 rfl) ?_
        refine mr_iaddN F dX7_writes_156 ?_
        refine lv_iload F.1.1 F.1.2.1 dX7_writes_157 (lv_at hl 2 rfl) ?_
        refine tr_st1 F hd hM (by omega) dX7_writes_159 (fun H locs hM => ?_)
        have hSt := nWrS_fs r d n p0 c0
        rw [hw] at hSt
        refine lv_aload_n F.1.1 F.1.2.1 dX7_writes_160 rfl (lv_at hl 4 rfl) ?_
        refine lv_iload_n F.1.1 F.1.2.1 dX7_writes_161 rfl (lv_at hl 5 rfl) ?_
        refine lv_iload_n F.1.1 F.1.2.1 dX7_writes_162 rfl (lv_at hl 6 rfl) ?_
        refine mc_Vv (As := [_, _]) F hM (ct_rubs l hd (by show nWrR r d n p0 c0 v (60 + d) = nI p0; rw [nWrR_at (by omega)]; exact hp) (by show nWrR r d n p0 c0 v (52 + d) = nI c0; rw [nWrR_at (by omega)]; exact hc) (by rw [va_up_self]; exact hSt) h1 h2 h3 h4) (cwV 2 F.1.2.2.2.2 (lw_V q1903 q1905 qs50 q88 q1906) rfl rfl rfl (by decide +kernel) (mRm_ok (by decide) (by decide))) (tM_0 hd) rfl rfl rfl rfl hl.1 rfl (Nat.le_of_ble_eq_true rfl) dX7_writes_163 ⟨Nat.le_of_ble_eq_true rfl, Nat.le_of_ble_eq_true rfl⟩ (fun H locs hM => ?_)
        refine lv_iload F.1.1 F.1.2.1 dX7_writes_166 (lv_at hl 2 rfl) ?_
        exact mr_iret F hQ hM ⟨rfl, by unfold nWrF; rw [hw]; rfl⟩ (Nat.le_of_ble_eq_true rfl) (Nat.le_of_ble_eq_true rfl) dX7_writes_168
      · refine lv_iload F.1.1 F.1.2.1 dX7_writes_111 (lv_at hl 1 rfl) ?_
        refine mr_bipush F 10 dX7_writes_113 (by decide +kernel) ?_
        refine lv_icmp_gt (tgt := 125) F.1.1 F.1.2.1 dX7_writes_115 (by decide) (fun c115 => ?_) (fun c115 => ?_)
        · have hw : nWrS r d n p0 c0 = FP.fmul f05 f75 := by
            unfold nWrS
            rw [hits]
            exact if_pos ⟨c108, Or.inl c115⟩
          refine lv_fload F.1.1 F.1.2.1 dX7_writes_125 (lv_at hl 0 rfl) ?_
          refine lv_ldcf F.1.1 F.1.2.1 F.1.2.2.2.1 (F.1.2.2.2.2 _ q1902) dX7_writes_127 ?_
          refine lv_fmul F.1.1 F.1.2.1 dX7_writes_129 fs_75_5n ?_
          refine lv_goto (tgt := 135) F.1.1 F.1.2.1 dX7_writes_130 (by decide) ?_
          refine tr_st2 F hd hM (by omega) dX7_writes_135 (fun H locs hM => ?_)
          refine lv_aload_n F.1.1 F.1.2.1 dX7_writes_136 rfl (lv_at hl 4 rfl) ?_
          refine tr_get F hd hM 0 (by decide) q1720 rfl dX7_writes_137 ?_
          refine mr_bipush F 126 dX7_writes_140 (by decide +kernel) ?_
          refine lv_iload F.1.1 F.1.2.1 dX7_writes_142 (lv_at hl 3 rfl) ?_
          refine mr_iaddN F dX7_writes_144 ?_
          refine lv_iload_n F.1.1 F.1.2.1 dX7_writes_145 rfl (lv_at hl 7 rfl) ?_
          refine tr_st1 F hd hM (by omega) dX7_writes_146 (fun H locs hM => ?_)
          refine lv_aload_n F.1.1 F.1.2.1 dX7_writes_147 rfl (lv_at hl 4 rfl) ?_
          refine tr_get F hd hM 0 (by decide) q1720 rfl dX7_writes_148 ?_
          refine mr_sipush F 846 dX7_writes_151 (by decide +kernel) ?_
          refine lv_iload F.1.1 F.1.2.1 dX7_writes_154 (lv_at hl 3 rfl) ?_
          refine mr_iaddN F dX7_writes_156 ?_
          refine lv_iload F.1.1 F.1.2.1 dX7_writes_157 (lv_at hl 2 rfl) ?_
          refine tr_st1 F hd hM (by omega) dX7_writes_159 (fun H locs hM => ?_)
          have hSt := nWrS_fs r d n p0 c0
          rw [hw] at hSt
          refine lv_aload_n F.1.1 F.1.2.1 dX7_writes_160 rfl (lv_at hl 4 rfl) ?_
          refine lv_iload_n F.1.1 F.1.2.1 dX7_writes_161 rfl (lv_at hl 5 rfl) ?_
          refine lv_iload_n F.1.1 F.1.2.1 dX7_writes_162 rfl (lv_at hl 6 rfl) ?_
          refine mc_Vv (As := [_, _]) F hM (ct_rubs l hd (by show nWrR r d n p0 c0 v (60 + d) = nI p0; rw [nWrR_at (by omega)]; exact hp) (by show nWrR r d n p0 c0 v (52 + d) = nI c0; rw [nWrR_at (by omega)]; exact hc) (by rw [va_up_self]; exact hSt) h1 h2 h3 h4) (cwV 2 F.1.2.2.2.2 (lw_V q1903 q1905 qs50 q88 q1906) rfl rfl rfl (by decide +kernel) (mRm_ok (by decide) (by decide))) (tM_0 hd) rfl rfl rfl rfl hl.1 rfl (Nat.le_of_ble_eq_true rfl) dX7_writes_163 ⟨Nat.le_of_ble_eq_true rfl, Nat.le_of_ble_eq_true rfl⟩ (fun H locs hM => ?_)
          refine lv_iload F.1.1 F.1.2.1 dX7_writes_166 (lv_at hl 2 rfl) ?_
          exact mr_iret F hQ hM ⟨rfl, by unfold nWrF; rw [hw]; rfl⟩ (Nat.le_of_ble_eq_true rfl) (Nat.le_of_ble_eq_true rfl) dX7_writes_168
        · refine lv_iload F.1.1 F.1.2.1 dX7_writes_118 (lv_at hl 1 rfl) ?_
          refine lv_bipush (v := -10) F.1.1 F.1.2.1 dX7_writes_120 (by decide +kernel) ?_
          refine lv_icmp_ge (tgt := 133) F.1.1 F.1.2.1 dX7_writes_122 (by decide) (fun c122 => ?_) (fun c122 => ?_)
          · have hw : nWrS r d n p0 c0 = f05 := by
              unfold nWrS
              rw [hits]
              exact if_neg (fun q => q.2.elim c115 (fun z => absurd z (Int32.not_lt.mpr c122)))
            refine lv_fload F.1.1 F.1.2.1 dX7_writes_133 (lv_at hl 0 rfl) ?_
            refine tr_st2 F hd hM (by omega) dX7_writes_135 (fun H locs hM => ?_)
            refine lv_aload_n F.1.1 F.1.2.1 dX7_writes_136 rfl (lv_at hl 4 rfl) ?_
            refine tr_get F hd hM 0 (by decide) q1720 rfl dX7_writes_137 ?_
            refine mr_bipush F 126 dX7_writes_140 (by decide +kernel) ?_
            refine lv_iload F.1.1 F.1.2.1 dX7_writes_142 (lv_at hl 3 rfl) ?_
            refine mr_iaddN F dX7_writes_144 ?_
            refine lv_iload_n F.1.1 F.1.2.1 dX7_writes_145 rfl (lv_at hl 7 rfl) ?_
            refine tr_st1 F hd hM (by omega) dX7_writes_146 (fun H locs hM => ?_)
            refine lv_aload_n F.1.1 F.1.2.1 dX7_writes_147 rfl (lv_at hl 4 rfl) ?_
            refine tr_get F hd hM 0 (by decide) q1720 rfl dX7_writes_148 ?_
            refine mr_sipush F 846 dX7_writes_151 (by decide +kernel) ?_
            refine lv_iload F.1.1 F.1.2.1 dX7_writes_154 (lv_at hl 3 rfl) ?_
            refine mr_iaddN F dX7_writes_156 ?_
            refine lv_iload F.1.1 F.1.2.1 dX7_writes_157 (lv_at hl 2 rfl) ?_
            refine tr_st1 F hd hM (by omega) dX7_writes_159 (fun H locs hM => ?_)
            have hSt := nWrS_fs r d n p0 c0
            rw [hw] at hSt
            refine lv_aload_n F.1.1 F.1.2.1 dX7_writes_160 rfl (lv_at hl 4 rfl) ?_
            refine lv_iload_n F.1.1 F.1.2.1 dX7_writes_161 rfl (lv_at hl 5 rfl) ?_
            refine lv_iload_n F.1.1 F.1.2.1 dX7_writes_162 rfl (lv_at hl 6 rfl) ?_
            refine mc_Vv (As := [_, _]) F hM (ct_rubs l hd (by show nWrR r d n p0 c0 v (60 + d) = nI p0; rw [nWrR_at (by omega)]; exact hp) (by show nWrR r d n p0 c0 v (52 + d) = nI c0; rw [nWrR_at (by omega)]; exact hc) (by rw [va_up_self]; exact hSt) h1 h2 h3 h4) (cwV 2 F.1.2.2.2.2 (lw_V q1903 q1905 qs50 q88 q1906) rfl rfl rfl (by decide +kernel) (mRm_ok (by decide) (by decide))) (tM_0 hd) rfl rfl rfl rfl hl.1 rfl (Nat.le_of_ble_eq_true rfl) dX7_writes_163 ⟨Nat.le_of_ble_eq_true rfl, Nat.le_of_ble_eq_true rfl⟩ (fun H locs hM => ?_)
            refine lv_iload F.1.1 F.1.2.1 dX7_writes_166 (lv_at hl 2 rfl) ?_
            exact mr_iret F hQ hM ⟨rfl, by unfold nWrF; rw [hw]; rfl⟩ (Nat.le_of_ble_eq_true rfl) (Nat.le_of_ble_eq_true rfl) dX7_writes_168
          · have hw : nWrS r d n p0 c0 = FP.fmul f05 f75 := by
              unfold nWrS
              rw [hits]
              exact if_pos ⟨c108, Or.inr (Int32.not_le.mp c122)⟩
            refine lv_fload F.1.1 F.1.2.1 dX7_writes_125 (lv_at hl 0 rfl) ?_
            refine lv_ldcf F.1.1 F.1.2.1 F.1.2.2.2.1 (F.1.2.2.2.2 _ q1902) dX7_writes_127 ?_
            refine lv_fmul F.1.1 F.1.2.1 dX7_writes_129 fs_75_5n ?_
            refine lv_goto (tgt := 135) F.1.1 F.1.2.1 dX7_writes_130 (by decide) ?_
            refine tr_st2 F hd hM (by omega) dX7_writes_135 (fun H locs hM => ?_)
            refine lv_aload_n F.1.1 F.1.2.1 dX7_writes_136 rfl (lv_at hl 4 rfl) ?_
            refine tr_get F hd hM 0 (by decide) q1720 rfl dX7_writes_137 ?_
            refine mr_bipush F 126 dX7_writes_140 (by decide +kernel) ?_
            refine lv_iload F.1.1 F.1.2.1 dX7_writes_142 (lv_at hl 3 rfl) ?_
            refine mr_iaddN F dX7_writes_144 ?_
            refine lv_iload_n F.1.1 F.1.2.1 dX7_writes_145 rfl (lv_at hl 7 rfl) ?_
            refine tr_st1 F hd hM (by omega) dX7_writes_146 (fun H locs hM => ?_)
            refine lv_aload_n F.1.1 F.1.2.1 dX7_writes_147 rfl (lv_at hl 4 rfl) ?_
            refine tr_get F hd hM 0 (by decide) q1720 rfl dX7_writes_148 ?_
            refine mr_sipush F 846 dX7_writes_151 (by decide +kernel) ?_
            refine lv_iload F.1.1 F.1.2.1 dX7_writes_154 (lv_at hl 3 rfl) ?_
            refine mr_iaddN F dX7_writes_156 ?_
            refine lv_iload F.1.1 F.1.2.1 dX7_writes_157 (lv_at hl 2 rfl) ?_
            refine tr_st1 F hd hM (by omega) dX7_writes_159 (fun H locs hM => ?_)
            have hSt := nWrS_fs r d n p0 c0
            rw [hw] at hSt
            refine lv_aload_n F.1.1 F.1.2.1 dX7_writes_160 rfl (lv_at hl 4 rfl) ?_
            refine lv_iload_n F.1.1 F.1.2.1 dX7_writes_161 rfl (lv_at hl 5 rfl) ?_
            refine lv_iload_n F.1.1 F.1.2.1 dX7_writes_162 rfl (lv_at hl 6 rfl) ?_
            refine mc_Vv (As := [_, _]) F hM (ct_rubs l hd (by show nWrR r d n p0 c0 v (60 + d) = nI p0; rw [nWrR_at (by omega)]; exact hp) (by show nWrR r d n p0 c0 v (52 + d) = nI c0; rw [nWrR_at (by omega)]; exact hc) (by rw [va_up_self]; exact hSt) h1 h2 h3 h4) (cwV 2 F.1.2.2.2.2 (lw_V q1903 q1905 qs50 q88 q1906) rfl rfl rfl (by decide +kernel) (mRm_ok (by decide) (by decide))) (tM_0 hd) rfl rfl rfl rfl hl.1 rfl (Nat.le_of_ble_eq_true rfl) dX7_writes_163 ⟨Nat.le_of_ble_eq_true rfl, Nat.le_of_ble_eq_true rfl⟩ (fun H locs hM => ?_)
            refine lv_iload F.1.1 F.1.2.1 dX7_writes_166 (lv_at hl 2 rfl) ?_
            exact mr_iret F hQ hM ⟨rfl, by unfold nWrF; rw [hw]; rfl⟩ (Nat.le_of_ble_eq_true rfl) (Nat.le_of_ble_eq_true rfl) dX7_writes_168
    · exact absurd trivial hu
set_option maxHeartbeats 4000000 in
theorem ct_readsNow (l : Launch) {G : mG} {ad : Nat → Nat} {g r : Nat → Int32} {f : Nat → UInt32} {h : tH} {b : Nat → Int32} {M0 : mM} {d n p0 c0 t : Nat} (hd : tAd ad) (hI : mInv r f) (hp : r (60 + d) = nI p0) (hc : r (52 + d) = nI c0) (ht : r 88 = nI t) (ht8 : t ≤ 8) (h1 : d < 4) (h2 : n < 3) (h3 : p0 < 6) (h4 : c0 < 40) : mMet l yX7_readsNow (ws_ yX7_readsNow cX7_readsNow 8 (some .int)) (mRm 5 0 0) [.ref (ad 0), .int (nI d), .int (nI n)] G (pPre (tM G ad g r f h b M0)) (pPost (tM G ad g (nRubR (nRdR r d p0 t (mRt r f d n p0 c0 t)) d n p0) (nRubF (nRdR r d p0 t (mRt r f d n p0 c0 t)) f d n p0 c0) h b M0) (some (.int (nRdV r n p0 c0 (mRt r f d n p0 c0 t))))) := by
  refine mMet.of (by decide +kernel) (Nat.le_of_ble_eq_true rfl) fun p e s m args below meth c A Q M hM0 F hnm hQ hM ls hl => ?_
  have hM0 : M = tM G ad g r f h b M0 := hM0
  subst hM0
  have hl : lv_has ls 8 [(0, .ref (ad 0)), (1, .int (nI d)), (2, .int (nI n))] := hl
  have hS : f (40 * (3 * p0 + n) + c0) ∈ fsL := hI.2.2.2.2.2.2.2.2.2.2.2.1 _ (by omega)
  refine lv_aload_n F.1.1 F.1.2.1 dX7_readsNow_0 rfl (lv_at hl 0 rfl) ?_
  refine tr_get F hd hM 0 (by decide) q1720 rfl dX7_readsNow_1 ?_
  refine mr_bipush F 60 dX7_readsNow_4 (by decide +kernel) ?_
  refine lv_iload_n F.1.1 F.1.2.1 dX7_readsNow_6 rfl (lv_at hl 1 rfl) ?_
  refine mr_iaddN F dX7_readsNow_7 ?_
  refine tr_ld1 F hd hM (by omega) hp dX7_readsNow_8 ?_
  refine lv_istore_n (lv' := [(3, _), (0, _), (1, _), (2, _)]) F.1.1 F.1.2.1 dX7_readsNow_9 rfl hl (by decide) rfl (fun ls hl => ?_)
  refine lv_aload_n F.1.1 F.1.2.1 dX7_readsNow_10 rfl (lv_at hl 1 rfl) ?_
  refine lv_iload_n F.1.1 F.1.2.1 dX7_readsNow_11 rfl (lv_at hl 2 rfl) ?_
  refine lv_iload_n F.1.1 F.1.2.1 dX7_readsNow_12 rfl (lv_at hl 3 rfl) ?_
  refine lv_iload_n F.1.1 F.1.2.1 dX7_readsNow_13 rfl (lv_at hl 0 rfl) ?_
  refine lv_aload_n F.1.1 F.1.2.1 dX7_readsNow_14 rfl (lv_at hl 1 rfl) ?_
  refine tr_get F hd hM 0 (by decide) q1720 rfl dX7_readsNow_15 ?_
  refine mr_bipush F 52 dX7_readsNow_18 (by decide +kernel) ?_
  refine lv_iload_n F.1.1 F.1.2.1 dX7_readsNow_20 rfl (lv_at hl 2 rfl) ?_
  refine mr_iaddN F dX7_readsNow_21 ?_
  refine tr_ld1 F hd hM (by omega) hc dX7_readsNow_22 ?_
  refine mc_Va (As := [_, _, _, _]) F hM (ct_retries l hd (by assumption) (by assumption) (by omega) (by omega) (by omega) (by omega) (by omega)) (cwV 4 F.1.2.2.2.2 (lw_V q1919 q1921 qs53 q88 q1922) rfl rfl rfl (by decide +kernel) (mRm_ok (by decide) (by decide))) (tM_0 hd) rfl rfl rfl rfl hl.1 rfl (Nat.le_of_ble_eq_true rfl) dX7_readsNow_23 ⟨Nat.le_of_ble_eq_true rfl, Nat.le_of_ble_eq_true rfl⟩ (fun H locs hM => ?_)
  rcases mFst_or (P := fun k => mOk (mSg r f d n p0 c0 (mTr k))) (2 * t + 1) 0 with hq | ⟨j, hj1, hj2, hj3, hq, hj4⟩
  · have hq : mRt r f d n p0 c0 t = -1 := hq
    rw [hq]
    refine lv_istore (lv' := [(4, _), (3, _), (0, _), (1, _), (2, _)]) F.1.1 F.1.2.1 dX7_readsNow_26 hl (by decide) rfl (fun ls hl => ?_)
    refine lv_iload F.1.1 F.1.2.1 dX7_readsNow_28 (lv_at hl 0 rfl) ?_
    refine lv_iconst (v := -1) F.1.1 F.1.2.1 dX7_readsNow_30 (by decide +kernel) ?_
    refine lv_icmp_ne (tgt := 38) F.1.1 F.1.2.1 dX7_readsNow_31 (by decide) (fun c31 => ?_) (fun c31 => ?_)
    · exact absurd rfl c31
    · refine lv_iconst (v := -1) F.1.1 F.1.2.1 dX7_readsNow_34 (by decide +kernel) ?_
      refine lv_goto (tgt := 60) F.1.1 F.1.2.1 dX7_readsNow_35 (by decide) ?_
      refine lv_istore (lv' := [(5, _), (4, _), (3, _), (0, _), (1, _), (2, _)]) F.1.1 F.1.2.1 dX7_readsNow_60 hl (by decide) rfl (fun ls hl => ?_)
      refine lv_iload F.1.1 F.1.2.1 dX7_readsNow_62 (lv_at hl 1 rfl) ?_
      refine lv_iconst (v := -1) F.1.1 F.1.2.1 dX7_readsNow_64 (by decide +kernel) ?_
      refine lv_icmp_ne (tgt := 82) F.1.1 F.1.2.1 dX7_readsNow_65 (by decide) (fun c65 => ?_) (fun c65 => ?_)
      · exact absurd rfl c65
      · refine mr_iconst F 2 dX7_readsNow_68 (by decide +kernel) ?_
        refine lv_aload_n F.1.1 F.1.2.1 dX7_readsNow_69 rfl (lv_at hl 3 rfl) ?_
        refine tr_get F hd hM 0 (by decide) q1720 rfl dX7_readsNow_70 ?_
        refine mr_bipush F 88 dX7_readsNow_73 (by decide +kernel) ?_
        refine tr_ld1 F hd hM (by omega) ht dX7_readsNow_75 ?_
        refine mr_imulN F dX7_readsNow_76 ?_
        refine mr_iconst F 1 dX7_readsNow_77 (by decide +kernel) ?_
        refine mr_iaddN F dX7_readsNow_78 ?_
        refine lv_goto (tgt := 84) F.1.1 F.1.2.1 dX7_readsNow_79 (by decide) ?_
        refine lv_istore (lv' := [(6, _), (5, _), (4, _), (3, _), (0, _), (1, _), (2, _)]) F.1.1 F.1.2.1 dX7_readsNow_84 hl (by decide) rfl (fun ls hl => ?_)
        refine lv_aload_n F.1.1 F.1.2.1 dX7_readsNow_86 rfl (lv_at hl 4 rfl) ?_
        refine tr_get F hd hM 0 (by decide) q1720 rfl dX7_readsNow_87 ?_
        refine lv_iload F.1.1 F.1.2.1 dX7_readsNow_90 (lv_at hl 2 rfl) ?_
        refine lv_iconst (v := -1) F.1.1 F.1.2.1 dX7_readsNow_92 (by decide +kernel) ?_
        refine lv_icmp_ne (tgt := 101) F.1.1 F.1.2.1 dX7_readsNow_93 (by decide) (fun c93 => ?_) (fun c93 => ?_)
        · exact absurd rfl c93
        · refine mr_bipush F 115 dX7_readsNow_96 (by decide +kernel) ?_
          refine lv_goto (tgt := 103) F.1.1 F.1.2.1 dX7_readsNow_98 (by decide) ?_
          refine lv_dup2_11 F.1.1 F.1.2.1 dX7_readsNow_103 rfl rfl ?_
          refine tr_ld1 F hd hM (by omega) rfl dX7_readsNow_104 ?_
          refine mr_iconst F 1 dX7_readsNow_105 (by decide +kernel) ?_
          refine lv_iadd F.1.1 F.1.2.1 dX7_readsNow_106 ?_
          refine tr_st1 F hd hM (by omega) dX7_readsNow_107 (fun H locs hM => ?_)
          refine lv_aload_n F.1.1 F.1.2.1 dX7_readsNow_108 rfl (lv_at hl 4 rfl) ?_
          refine tr_get F hd hM 0 (by decide) q1720 rfl dX7_readsNow_109 ?_
          refine mr_bipush F 116 dX7_readsNow_112 (by decide +kernel) ?_
          refine lv_iload_n F.1.1 F.1.2.1 dX7_readsNow_114 rfl (lv_at hl 5 rfl) ?_
          refine mr_iaddN F dX7_readsNow_115 ?_
          refine lv_dup2_11 F.1.1 F.1.2.1 dX7_readsNow_116 rfl rfl ?_
          refine tr_ld1 F hd hM (by omega) rfl dX7_readsNow_117 ?_
          refine lv_iload F.1.1 F.1.2.1 dX7_readsNow_118 (lv_at hl 0 rfl) ?_
          refine lv_iadd F.1.1 F.1.2.1 dX7_readsNow_120 ?_
          refine tr_st1 F hd hM (by omega) dX7_readsNow_121 (fun H locs hM => ?_)
          refine lv_aload_n F.1.1 F.1.2.1 dX7_readsNow_122 rfl (lv_at hl 4 rfl) ?_
          refine tr_get F hd hM 0 (by decide) q1720 rfl dX7_readsNow_123 ?_
          refine mr_bipush F 120 dX7_readsNow_126 (by decide +kernel) ?_
          refine lv_iload_n F.1.1 F.1.2.1 dX7_readsNow_128 rfl (lv_at hl 3 rfl) ?_
          refine mr_iaddN F dX7_readsNow_129 ?_
          refine lv_dup2_11 F.1.1 F.1.2.1 dX7_readsNow_130 rfl rfl ?_
          refine tr_ld1 F hd hM (by omega) rfl dX7_readsNow_131 ?_
          refine lv_iload F.1.1 F.1.2.1 dX7_readsNow_132 (lv_at hl 0 rfl) ?_
          refine lv_iadd F.1.1 F.1.2.1 dX7_readsNow_134 ?_
          refine tr_st1 F hd hM (by omega) dX7_readsNow_135 (fun H locs hM => ?_)
          refine lv_iload F.1.1 F.1.2.1 dX7_readsNow_136 (lv_at hl 2 rfl) ?_
          refine lv_if_le (tgt := 197) F.1.1 F.1.2.1 dX7_readsNow_138 (by decide) (fun c138 => ?_) (fun c138 => ?_)
          · have hM : mWd G A s.heap (tM G ad g (nRdR r d p0 t (-1)) f h b M0) H locs := hM
            refine lv_aload_n F.1.1 F.1.2.1 dX7_readsNow_197 rfl (lv_at hl 4 rfl) ?_
            refine lv_iload_n F.1.1 F.1.2.1 dX7_readsNow_198 rfl (lv_at hl 5 rfl) ?_
            refine lv_iload_n F.1.1 F.1.2.1 dX7_readsNow_199 rfl (lv_at hl 6 rfl) ?_
            refine mc_Vv (As := [_, _]) F hM (ct_rubs l hd (by rw [nRdR_at (by omega)]; exact hp) (by rw [nRdR_at (by omega)]; exact hc) hS h1 h2 h3 h4) (cwV 2 F.1.2.2.2.2 (lw_V q1903 q1905 qs50 q88 q1906) rfl rfl rfl (by decide +kernel) (mRm_ok (by decide) (by decide))) (tM_0 hd) rfl rfl rfl rfl hl.1 rfl (Nat.le_of_ble_eq_true rfl) dX7_readsNow_200 ⟨Nat.le_of_ble_eq_true rfl, Nat.le_of_ble_eq_true rfl⟩ (fun H locs hM => ?_)
            refine lv_iload F.1.1 F.1.2.1 dX7_readsNow_203 (lv_at hl 1 rfl) ?_
            exact mr_iret F hQ hM ⟨by rw [hq]; rfl, by rw [hq]⟩ (Nat.le_of_ble_eq_true rfl) (Nat.le_of_ble_eq_true rfl) dX7_readsNow_205
          · exact absurd (by decide) c138
  · have hq : mRt r f d n p0 c0 t = nI j := hq
    rw [hq]
    have hj0 := m1_ne_nI (show j < 2 ^ 31 by omega)
    refine lv_istore (lv' := [(4, _), (3, _), (0, _), (1, _), (2, _)]) F.1.1 F.1.2.1 dX7_readsNow_26 hl (by decide) rfl (fun ls hl => ?_)
    refine lv_iload F.1.1 F.1.2.1 dX7_readsNow_28 (lv_at hl 0 rfl) ?_
    refine lv_iconst (v := -1) F.1.1 F.1.2.1 dX7_readsNow_30 (by decide +kernel) ?_
    refine lv_icmp_ne (tgt := 38) F.1.1 F.1.2.1 dX7_readsNow_31 (by decide) (fun c31 => ?_) (fun c31 => ?_)
    · refine lv_aload_n F.1.1 F.1.2.1 dX7_readsNow_38 rfl (lv_at hl 2 rfl) ?_
      refine tr_get F hd hM 0 (by decide) q1720 rfl dX7_readsNow_39 ?_
      refine mr_bipush F 126 dX7_readsNow_42 (by decide +kernel) ?_
      refine lv_iload_n F.1.1 F.1.2.1 dX7_readsNow_44 rfl (lv_at hl 1 rfl) ?_
      refine lv_iload_n F.1.1 F.1.2.1 dX7_readsNow_45 rfl (lv_at hl 4 rfl) ?_
      refine lv_aload_n F.1.1 F.1.2.1 dX7_readsNow_46 rfl (lv_at hl 2 rfl) ?_
      refine tr_get F hd hM 0 (by decide) q1720 rfl dX7_readsNow_47 ?_
      refine mr_bipush F 52 dX7_readsNow_50 (by decide +kernel) ?_
      refine lv_iload_n F.1.1 F.1.2.1 dX7_readsNow_52 rfl (lv_at hl 3 rfl) ?_
      refine mr_iaddN F dX7_readsNow_53 ?_
      refine tr_ld1 F hd hM (by omega) hc dX7_readsNow_54 ?_
      refine mc_Sa (As := [_, _, _]) F hM (ct_track l ) (va_cwS 3 F.1.2.2.2.2 (lw_S q1894 q1895 q88 q1896) rfl rfl rfl (by decide +kernel) (mRm_ok (by decide) (by decide))) rfl rfl hl.1 rfl (Nat.le_of_ble_eq_true rfl) dX7_readsNow_55 ⟨Nat.le_of_ble_eq_true rfl, Nat.le_of_ble_eq_true rfl⟩ (fun H locs hM => ?_)
      refine mr_iaddN F dX7_readsNow_58 ?_
      refine tr_ld1 F hd hM (by omega) rfl dX7_readsNow_59 ?_
      refine lv_istore (lv' := [(5, _), (4, _), (3, _), (0, _), (1, _), (2, _)]) F.1.1 F.1.2.1 dX7_readsNow_60 hl (by decide) rfl (fun ls hl => ?_)
      refine lv_iload F.1.1 F.1.2.1 dX7_readsNow_62 (lv_at hl 1 rfl) ?_
      refine lv_iconst (v := -1) F.1.1 F.1.2.1 dX7_readsNow_64 (by decide +kernel) ?_
      refine lv_icmp_ne (tgt := 82) F.1.1 F.1.2.1 dX7_readsNow_65 (by decide) (fun c65 => ?_) (fun c65 => ?_)
      · refine lv_iload F.1.1 F.1.2.1 dX7_readsNow_82 (lv_at hl 1 rfl) ?_
        refine lv_istore (lv' := [(6, _), (5, _), (4, _), (3, _), (0, _), (1, _), (2, _)]) F.1.1 F.1.2.1 dX7_readsNow_84 hl (by decide) rfl (fun ls hl => ?_)
        refine lv_aload_n F.1.1 F.1.2.1 dX7_readsNow_86 rfl (lv_at hl 4 rfl) ?_
        refine tr_get F hd hM 0 (by decide) q1720 rfl dX7_readsNow_87 ?_
        refine lv_iload F.1.1 F.1.2.1 dX7_readsNow_90 (lv_at hl 2 rfl) ?_
        refine lv_iconst (v := -1) F.1.1 F.1.2.1 dX7_readsNow_92 (by decide +kernel) ?_
        refine lv_icmp_ne (tgt := 101) F.1.1 F.1.2.1 dX7_readsNow_93 (by decide) (fun c93 => ?_) (fun c93 => ?_)
        · refine mr_bipush F 114 dX7_readsNow_101 (by decide +kernel) ?_
          refine lv_dup2_11 F.1.1 F.1.2.1 dX7_readsNow_103 rfl rfl ?_
          refine tr_ld1 F hd hM (by omega) rfl dX7_readsNow_104 ?_
          refine mr_iconst F 1 dX7_readsNow_105 (by decide +kernel) ?_
          refine lv_iadd F.1.1 F.1.2.1 dX7_readsNow_106 ?_
          refine tr_st1 F hd hM (by omega) dX7_readsNow_107 (fun H locs hM => ?_)
          refine lv_aload_n F.1.1 F.1.2.1 dX7_readsNow_108 rfl (lv_at hl 4 rfl) ?_
          refine tr_get F hd hM 0 (by decide) q1720 rfl dX7_readsNow_109 ?_
          refine mr_bipush F 116 dX7_readsNow_112 (by decide +kernel) ?_
          refine lv_iload_n F.1.1 F.1.2.1 dX7_readsNow_114 rfl (lv_at hl 5 rfl) ?_
          refine mr_iaddN F dX7_readsNow_115 ?_
          refine lv_dup2_11 F.1.1 F.1.2.1 dX7_readsNow_116 rfl rfl ?_
          refine tr_ld1 F hd hM (by omega) rfl dX7_readsNow_117 ?_
          refine lv_iload F.1.1 F.1.2.1 dX7_readsNow_118 (lv_at hl 0 rfl) ?_
          refine lv_iadd F.1.1 F.1.2.1 dX7_readsNow_120 ?_
          refine tr_st1 F hd hM (by omega) dX7_readsNow_121 (fun H locs hM => ?_)
          refine lv_aload_n F.1.1 F.1.2.1 dX7_readsNow_122 rfl (lv_at hl 4 rfl) ?_
          refine tr_get F hd hM 0 (by decide) q1720 rfl dX7_readsNow_123 ?_
          refine mr_bipush F 120 dX7_readsNow_126 (by decide +kernel) ?_
          refine lv_iload_n F.1.1 F.1.2.1 dX7_readsNow_128 rfl (lv_at hl 3 rfl) ?_
          refine mr_iaddN F dX7_readsNow_129 ?_
          refine lv_dup2_11 F.1.1 F.1.2.1 dX7_readsNow_130 rfl rfl ?_
          refine tr_ld1 F hd hM (by omega) rfl dX7_readsNow_131 ?_
          refine lv_iload F.1.1 F.1.2.1 dX7_readsNow_132 (lv_at hl 0 rfl) ?_
          refine lv_iadd F.1.1 F.1.2.1 dX7_readsNow_134 ?_
          refine tr_st1 F hd hM (by omega) dX7_readsNow_135 (fun H locs hM => ?_)
          refine lv_iload F.1.1 F.1.2.1 dX7_readsNow_136 (lv_at hl 2 rfl) ?_
          refine mr_ifleN F (tgt := 197) dX7_readsNow_138 (by decide) (by omega) (fun c138 => ?_) (fun c138 => ?_)
          · have hA : nRdA r d p0 t (nI j) = va_up (va_up (va_up r 114 (r 114 + nI 1)) (116 + d) ((va_up r 114 (r 114 + nI 1)) (116 + d) + nI j)) (120 + p0) ((va_up (va_up r 114 (r 114 + nI 1)) (116 + d) ((va_up r 114 (r 114 + nI 1)) (116 + d) + nI j)) (120 + p0) + nI j) := by
              unfold nRdA nMany
              simp only [if_neg hj0]
            have hB : nRdR r d p0 t (nI j) = nRdA r d p0 t (nI j) := by
              unfold nRdR
              exact if_neg (by rw [c138]; decide)
            have hM : mWd G A s.heap (tM G ad g (nRdR r d p0 t (nI j)) f h b M0) H locs := by
              first
                | (rw [hz]; exact hM)
                | (rw [hB, hA]; exact hM)
            refine lv_aload_n F.1.1 F.1.2.1 dX7_readsNow_197 rfl (lv_at hl 4 rfl) ?_
            refine lv_iload_n F.1.1 F.1.2.1 dX7_readsNow_198 rfl (lv_at hl 5 rfl) ?_
            refine lv_iload_n F.1.1 F.1.2.1 dX7_readsNow_199 rfl (lv_at hl 6 rfl) ?_
            refine mc_Vv (As := [_, _]) F hM (ct_rubs l hd (by rw [nRdR_at (by omega)]; exact hp) (by rw [nRdR_at (by omega)]; exact hc) hS h1 h2 h3 h4) (cwV 2 F.1.2.2.2.2 (lw_V q1903 q1905 qs50 q88 q1906) rfl rfl rfl (by decide +kernel) (mRm_ok (by decide) (by decide))) (tM_0 hd) rfl rfl rfl rfl hl.1 rfl (Nat.le_of_ble_eq_true rfl) dX7_readsNow_200 ⟨Nat.le_of_ble_eq_true rfl, Nat.le_of_ble_eq_true rfl⟩ (fun H locs hM => ?_)
            refine lv_iload F.1.1 F.1.2.1 dX7_readsNow_203 (lv_at hl 1 rfl) ?_
            exact mr_iret F hQ hM ⟨by rw [hq]; unfold nRdV; rw [if_neg hj0], by rw [hq]⟩ (Nat.le_of_ble_eq_true rfl) (Nat.le_of_ble_eq_true rfl) dX7_readsNow_205
          · have hA : nRdA r d p0 t (nI j) = va_up (va_up (va_up r 114 (r 114 + nI 1)) (116 + d) ((va_up r 114 (r 114 + nI 1)) (116 + d) + nI j)) (120 + p0) ((va_up (va_up r 114 (r 114 + nI 1)) (116 + d) ((va_up r 114 (r 114 + nI 1)) (116 + d) + nI j)) (120 + p0) + nI j) := by
              unfold nRdA nMany
              simp only [if_neg hj0]
            rw [← hA] at hM
            have hjp : (0 : Int32) < nI j := by
              have := (nK_lt (show 0 < 2 ^ 31 by decide) (show j < 2 ^ 31 by omega)).mpr (by omega)
              exact this
            have hB : ∀ z : Int32, nClip (nRdA r d p0 t (nI j) (64 + 6 * d + p0) + mTr j) = z → nRdR r d p0 t (nI j) = va_up (nRdA r d p0 t (nI j)) (64 + 6 * d + p0) z := by
              intro z hz
              unfold nRdR
              rw [if_pos hjp, nD_nI (show j < 2 ^ 31 by omega), hz]
            refine lv_aload_n F.1.1 F.1.2.1 dX7_readsNow_141 rfl (lv_at hl 4 rfl) ?_
            refine tr_get F hd hM 0 (by decide) q1720 rfl dX7_readsNow_142 ?_
            refine lv_aload_n F.1.1 F.1.2.1 dX7_readsNow_145 rfl (lv_at hl 4 rfl) ?_
            refine lv_iload_n F.1.1 F.1.2.1 dX7_readsNow_146 rfl (lv_at hl 5 rfl) ?_
            refine lv_iload_n F.1.1 F.1.2.1 dX7_readsNow_147 rfl (lv_at hl 3 rfl) ?_
            refine mc_Va (As := [_, _]) F hM (ct_learnedAt l hd ) (cwV 2 F.1.2.2.2.2 (lw_V q1840 q1842 qs42 q88 q1843) rfl rfl rfl (by decide +kernel) (mRm_ok (by decide) (by decide))) (tM_0 hd) rfl rfl rfl rfl hl.1 rfl (Nat.le_of_ble_eq_true rfl) dX7_readsNow_148 ⟨Nat.le_of_ble_eq_true rfl, Nat.le_of_ble_eq_true rfl⟩ (fun H locs hM => ?_)
            refine tr_ld1 F hd hM (by omega) rfl dX7_readsNow_151 ?_
            refine lv_iload F.1.1 F.1.2.1 dX7_readsNow_152 (lv_at hl 2 rfl) ?_
            refine mc_Sa (As := [_]) F hM (ct_tried l ) (va_cwS 1 F.1.2.2.2.2 (lw_S q1923 q1924 q88 q1925) rfl rfl rfl (by decide +kernel) (mRm_ok (by decide) (by decide))) rfl rfl hl.1 rfl (Nat.le_of_ble_eq_true rfl) dX7_readsNow_154 ⟨Nat.le_of_ble_eq_true rfl, Nat.le_of_ble_eq_true rfl⟩ (fun H locs hM => ?_)
            refine lv_iadd F.1.1 F.1.2.1 dX7_readsNow_157 ?_
            refine lv_istore (lv' := [(7, _), (6, _), (5, _), (4, _), (3, _), (0, _), (1, _), (2, _)]) F.1.1 F.1.2.1 dX7_readsNow_158 hl (by decide) rfl (fun ls hl => ?_)
            refine lv_aload_n F.1.1 F.1.2.1 dX7_readsNow_160 rfl (lv_at hl 5 rfl) ?_
            refine tr_get F hd hM 0 (by decide) q1720 rfl dX7_readsNow_161 ?_
            refine lv_aload_n F.1.1 F.1.2.1 dX7_readsNow_164 rfl (lv_at hl 5 rfl) ?_
            refine lv_iload_n F.1.1 F.1.2.1 dX7_readsNow_165 rfl (lv_at hl 6 rfl) ?_
            refine lv_iload_n F.1.1 F.1.2.1 dX7_readsNow_166 rfl (lv_at hl 4 rfl) ?_
            refine mc_Va (As := [_, _]) F hM (ct_learnedAt l hd ) (cwV 2 F.1.2.2.2.2 (lw_V q1840 q1842 qs42 q88 q1843) rfl rfl rfl (by decide +kernel) (mRm_ok (by decide) (by decide))) (tM_0 hd) rfl rfl rfl rfl hl.1 rfl (Nat.le_of_ble_eq_true rfl) dX7_readsNow_167 ⟨Nat.le_of_ble_eq_true rfl, Nat.le_of_ble_eq_true rfl⟩ (fun H locs hM => ?_)
            refine lv_iload F.1.1 F.1.2.1 dX7_readsNow_170 (lv_at hl 0 rfl) ?_
            refine mr_bipush F 40 dX7_readsNow_172 (by decide +kernel) ?_
            refine lv_icmp_le (tgt := 182) F.1.1 F.1.2.1 dX7_readsNow_174 (by decide) (fun c174 => ?_) (fun c174 => ?_)
            · refine lv_iload F.1.1 F.1.2.1 dX7_readsNow_182 (lv_at hl 0 rfl) ?_
              refine lv_bipush (v := -40) F.1.1 F.1.2.1 dX7_readsNow_184 (by decide +kernel) ?_
              refine lv_icmp_ge (tgt := 194) F.1.1 F.1.2.1 dX7_readsNow_186 (by decide) (fun c186 => ?_) (fun c186 => ?_)
              · have hz := hB _ (by unfold nClip; rw [if_neg (Int32.not_lt.mpr c174), if_neg (Int32.not_lt.mpr c186)])
                refine lv_iload F.1.1 F.1.2.1 dX7_readsNow_194 (lv_at hl 0 rfl) ?_
                refine tr_st1 F hd hM (by omega) dX7_readsNow_196 (fun H locs hM => ?_)
                have hM : mWd G A s.heap (tM G ad g (nRdR r d p0 t (nI j)) f h b M0) H locs := by
                  first
                    | (rw [hz]; exact hM)
                    | (rw [hB, hA]; exact hM)
                refine lv_aload_n F.1.1 F.1.2.1 dX7_readsNow_197 rfl (lv_at hl 5 rfl) ?_
                refine lv_iload_n F.1.1 F.1.2.1 dX7_readsNow_198 rfl (lv_at hl 6 rfl) ?_
                refine lv_iload_n F.1.1 F.1.2.1 dX7_readsNow_199 rfl (lv_at hl 7 rfl) ?_
                refine mc_Vv (As := [_, _]) F hM (ct_rubs l hd (by rw [nRdR_at (by omega)]; exact hp) (by rw [nRdR_at (by omega)]; exact hc) hS h1 h2 h3 h4) (cwV 2 F.1.2.2.2.2 (lw_V q1903 q1905 qs50 q88 q1906) rfl rfl rfl (by decide +kernel) (mRm_ok (by decide) (by decide))) (tM_0 hd) rfl rfl rfl rfl hl.1 rfl (Nat.le_of_ble_eq_true rfl) dX7_readsNow_200 ⟨Nat.le_of_ble_eq_true rfl, Nat.le_of_ble_eq_true rfl⟩ (fun H locs hM => ?_)
                refine lv_iload F.1.1 F.1.2.1 dX7_readsNow_203 (lv_at hl 2 rfl) ?_
                exact mr_iret F hQ hM ⟨by rw [hq]; unfold nRdV; rw [if_neg hj0], by rw [hq]⟩ (Nat.le_of_ble_eq_true rfl) (Nat.le_of_ble_eq_true rfl) dX7_readsNow_205
              · have hz := hB (-40) (by unfold nClip; rw [if_neg (Int32.not_lt.mpr c174)]; exact if_pos (Int32.not_le.mp c186))
                refine lv_bipush (v := -40) F.1.1 F.1.2.1 dX7_readsNow_189 (by decide +kernel) ?_
                refine lv_goto (tgt := 196) F.1.1 F.1.2.1 dX7_readsNow_191 (by decide) ?_
                refine tr_st1 F hd hM (by omega) dX7_readsNow_196 (fun H locs hM => ?_)
                have hM : mWd G A s.heap (tM G ad g (nRdR r d p0 t (nI j)) f h b M0) H locs := by
                  first
                    | (rw [hz]; exact hM)
                    | (rw [hB, hA]; exact hM)
                refine lv_aload_n F.1.1 F.1.2.1 dX7_readsNow_197 rfl (lv_at hl 5 rfl) ?_
                refine lv_iload_n F.1.1 F.1.2.1 dX7_readsNow_198 rfl (lv_at hl 6 rfl) ?_
                refine lv_iload_n F.1.1 F.1.2.1 dX7_readsNow_199 rfl (lv_at hl 7 rfl) ?_
                refine mc_Vv (As := [_, _]) F hM (ct_rubs l hd (by rw [nRdR_at (by omega)]; exact hp) (by rw [nRdR_at (by omega)]; exact hc) hS h1 h2 h3 h4) (cwV 2 F.1.2.2.2.2 (lw_V q1903 q1905 qs50 q88 q1906) rfl rfl rfl (by decide +kernel) (mRm_ok (by decide) (by decide))) (tM_0 hd) rfl rfl rfl rfl hl.1 rfl (Nat.le_of_ble_eq_true rfl) dX7_readsNow_200 ⟨Nat.le_of_ble_eq_true rfl, Nat.le_of_ble_eq_true rfl⟩ (fun H locs hM => ?_)
                refine lv_iload F.1.1 F.1.2.1 dX7_readsNow_203 (lv_at hl 2 rfl) ?_
                exact mr_iret F hQ hM ⟨by rw [hq]; unfold nRdV; rw [if_neg hj0], by rw [hq]⟩ (Nat.le_of_ble_eq_true rfl) (Nat.le_of_ble_eq_true rfl) dX7_readsNow_205
            · have hz := hB (nI 40) (by unfold nClip; exact if_pos (Int32.not_le.mp c174))
              refine mr_bipush F 40 dX7_readsNow_177 (by decide +kernel) ?_
              refine lv_goto (tgt := 196) F.1.1 F.1.2.1 dX7_readsNow_179 (by decide) ?_
              refine tr_st1 F hd hM (by omega) dX7_readsNow_196 (fun H locs hM => ?_)
              have hM : mWd G A s.heap (tM G ad g (nRdR r d p0 t (nI j)) f h b M0) H locs := by
                first
                  | (rw [hz]; exact hM)
                  | (rw [hB, hA]; exact hM)
              refine lv_aload_n F.1.1 F.1.2.1 dX7_readsNow_197 rfl (lv_at hl 5 rfl) ?_
              refine lv_iload_n F.1.1 F.1.2.1 dX7_readsNow_198 rfl (lv_at hl 6 rfl) ?_
              refine lv_iload_n F.1.1 F.1.2.1 dX7_readsNow_199 rfl (lv_at hl 7 rfl) ?_
              refine mc_Vv (As := [_, _]) F hM (ct_rubs l hd (by rw [nRdR_at (by omega)]; exact hp) (by rw [nRdR_at (by omega)]; exact hc) hS h1 h2 h3 h4) (cwV 2 F.1.2.2.2.2 (lw_V q1903 q1905 qs50 q88 q1906) rfl rfl rfl (by decide +kernel) (mRm_ok (by decide) (by decide))) (tM_0 hd) rfl rfl rfl rfl hl.1 rfl (Nat.le_of_ble_eq_true rfl) dX7_readsNow_200 ⟨Nat.le_of_ble_eq_true rfl, Nat.le_of_ble_eq_true rfl⟩ (fun H locs hM => ?_)
              refine lv_iload F.1.1 F.1.2.1 dX7_readsNow_203 (lv_at hl 2 rfl) ?_
              exact mr_iret F hQ hM ⟨by rw [hq]; unfold nRdV; rw [if_neg hj0], by rw [hq]⟩ (Nat.le_of_ble_eq_true rfl) (Nat.le_of_ble_eq_true rfl) dX7_readsNow_205
        · exact absurd c93 hj0
      · exact absurd c65 hj0
    · exact absurd c31 hj0
set_option maxHeartbeats 4000000 in
theorem ct_polishes (l : Launch) {G : mG} {ad : Nat → Nat} {g r : Nat → Int32} {f : Nat → UInt32} {h : tH} {b : Nat → Int32} {M0 : mM} {p0 : Nat} (hd : tAd ad) (hI : ∀ j, j < 720 → f j ∈ fsL) (h3 : p0 < 6) : mMet l yX7_polishes (ws_ yX7_polishes cX7_polishes 6 (some .int)) (mRm 2 0 0) [.ref (ad 0), .int (nI p0)] G (pPre (tM G ad g r f h b M0)) (pPost (tM G ad g (nPolR r p0 3) (nPolF r f p0 3) h b M0) (some (.int (nPolN r p0 3)))) := by
  refine mMet.of (by decide +kernel) (Nat.le_of_ble_eq_true rfl) fun p e s m args below meth c A Q M hM0 F hnm hQ hM ls hl => ?_
  have hM0 : M = tM G ad g r f h b M0 := hM0
  subst hM0
  have hl : lv_has ls 6 [(0, .ref (ad 0)), (1, .int (nI p0))] := hl
  refine mr_iconst F 0 dX7_polishes_0 (by decide +kernel) ?_
  refine lv_istore_n (lv' := [(2, _), (0, _), (1, _)]) F.1.1 F.1.2.1 dX7_polishes_1 rfl hl (by decide) rfl (fun ls hl => ?_)
  refine mr_iconst F 0 dX7_polishes_2 (by decide +kernel) ?_
  refine lv_istore_n (lv' := [(3, _), (2, _), (0, _), (1, _)]) F.1.1 F.1.2.1 dX7_polishes_3 rfl hl (by decide) rfl (fun ls hl => ?_)
  have lo : ∀ i k : Nat, k + i = 3 → ∀ (H : Heap) (locs : List Loc), mWd G A s.heap (tM G ad g (nPolR r p0 k) (nPolF r f p0 k) h b M0) H locs → ∀ ls : Array Slot, lv_has ls 6 [(2, .int (nPolN r p0 k)), (3, .int (nI k)), (0, .ref (ad 0)), (1, .int (nI p0))] → W p l e (mRm 2 0 0) s m args below meth c H locs 0 0 Q (F0 m 4 ls []) := by
    intro i
    induction i with
    | zero =>
      intro k hk H locs hM ls hl
      obtain rfl : k = 3 := by omega
      refine lv_iload_n F.1.1 F.1.2.1 dX7_polishes_4 rfl (lv_at hl 1 rfl) ?_
      refine mr_iconst F 3 dX7_polishes_5 (by decide +kernel) ?_
      refine mr_icmp_geN F (tgt := 86) dX7_polishes_6 (by decide) (by omega) (by omega) (fun c6 => ?_) (fun c6 => ?_)
      · refine lv_iload_n F.1.1 F.1.2.1 dX7_polishes_86 rfl (lv_at hl 0 rfl) ?_
        exact mr_iret F hQ hM ⟨rfl, rfl⟩ (Nat.le_of_ble_eq_true rfl) (Nat.le_of_ble_eq_true rfl) dX7_polishes_87
      · exact absurd c6 (by omega)
    | succ i ih =>
      intro k hk H locs hM ls hl
      have hfs := nPolF_fs (r := r) (p0 := p0) hI k
      refine lv_iload_n F.1.1 F.1.2.1 dX7_polishes_4 rfl (lv_at hl 1 rfl) ?_
      refine mr_iconst F 3 dX7_polishes_5 (by decide +kernel) ?_
      refine mr_icmp_geN F (tgt := 86) dX7_polishes_6 (by decide) (by omega) (by omega) (fun c6 => ?_) (fun c6 => ?_)
      · exact absurd c6 (by omega)
      · refine mr_bipush F 96 dX7_polishes_9 (by decide +kernel) ?_
        refine mr_iconst F 3 dX7_polishes_11 (by decide +kernel) ?_
        refine lv_iload_n F.1.1 F.1.2.1 dX7_polishes_12 rfl (lv_at hl 3 rfl) ?_
        refine mr_imulN F dX7_polishes_13 ?_
        refine mr_iaddN F dX7_polishes_14 ?_
        refine lv_iload_n F.1.1 F.1.2.1 dX7_polishes_15 rfl (lv_at hl 1 rfl) ?_
        refine mr_iaddN F dX7_polishes_16 ?_
        refine lv_istore (lv' := [(4, _), (2, _), (3, _), (0, _), (1, _)]) F.1.1 F.1.2.1 dX7_polishes_17 hl (by decide) rfl (fun ls hl => ?_)
        refine mr_iconst F 0 dX7_polishes_19 (by decide +kernel) ?_
        refine lv_istore (lv' := [(5, _), (4, _), (2, _), (3, _), (0, _), (1, _)]) F.1.1 F.1.2.1 dX7_polishes_20 hl (by decide) rfl (fun ls hl => ?_)
        by_cases hs : r (96 + 3 * p0 + k) = nI 1
        · have li : ∀ i2 c0 : Nat, c0 + i2 = 40 → ∀ (H : Heap) (locs : List Loc), mWd G A s.heap (tM G ad g (nPolR r p0 k) (nHlv (nPolF r f p0 k) (40 * (3 * p0 + k)) c0) h b M0) H locs → ∀ ls : Array Slot, lv_has ls 6 [(5, .int (nI c0)), (4, .int (nI (96 + 3 * p0 + k))), (2, .int (nPolN r p0 k)), (3, .int (nI k)), (0, .ref (ad 0)), (1, .int (nI p0))] → W p l e (mRm 2 0 0) s m args below meth c H locs 0 0 Q (F0 m 22 ls []) := by
            intro i2
            induction i2 with
            | zero =>
              intro c0 hc0 H locs hM ls hl
              obtain rfl : c0 = 40 := by omega
              refine lv_iload F.1.1 F.1.2.1 dX7_polishes_22 (lv_at hl 0 rfl) ?_
              refine mr_bipush F 40 dX7_polishes_24 (by decide +kernel) ?_
              refine mr_icmp_geN F (tgt := 62) dX7_polishes_26 (by decide) (by omega) (by omega) (fun c26 => ?_) (fun c26 => ?_)
              · refine lv_iload_n F.1.1 F.1.2.1 dX7_polishes_62 rfl (lv_at hl 2 rfl) ?_
                refine lv_aload_n F.1.1 F.1.2.1 dX7_polishes_63 rfl (lv_at hl 4 rfl) ?_
                refine tr_get F hd hM 0 (by decide) q1720 rfl dX7_polishes_64 ?_
                refine lv_iload F.1.1 F.1.2.1 dX7_polishes_67 (lv_at hl 1 rfl) ?_
                refine tr_ld1 F hd hM (by omega) (nPolR_at r p0 k k (Nat.le_refl _)) dX7_polishes_69 ?_
                refine lv_iadd F.1.1 F.1.2.1 dX7_polishes_70 ?_
                refine lv_istore_n (lv' := [(2, _), (5, _), (4, _), (3, _), (0, _), (1, _)]) F.1.1 F.1.2.1 dX7_polishes_71 rfl hl (by decide) rfl (fun ls hl => ?_)
                refine lv_aload_n F.1.1 F.1.2.1 dX7_polishes_72 rfl (lv_at hl 4 rfl) ?_
                refine tr_get F hd hM 0 (by decide) q1720 rfl dX7_polishes_73 ?_
                refine lv_iload F.1.1 F.1.2.1 dX7_polishes_76 (lv_at hl 2 rfl) ?_
                refine mr_iconst F 0 dX7_polishes_78 (by decide +kernel) ?_
                refine tr_st1 F hd hM (by omega) dX7_polishes_79 (fun H locs hM => ?_)
                refine lv_iinc (lv' := [(3, _), (2, _), (5, _), (4, _), (0, _), (1, _)]) F.1.1 F.1.2.1 dX7_polishes_80 hl (k := 3) rfl (nK_add _ 1) (by decide) rfl (fun ls hl => ?_)
                refine lv_goto (tgt := 4) F.1.1 F.1.2.1 dX7_polishes_83 (by decide) ?_
                exact ih (k + 1) (by omega) _ _ (by rw [show nPolF r f p0 (k + 1) = _ from by unfold nPolF; exact if_pos hs]; exact hM) _ (lv_sub hl [1, 0, 4, 5] rfl)
              · exact absurd c26 (by omega)
            | succ i2 ih2 =>
              intro c0 hc0 H locs hM ls hl
              refine lv_iload F.1.1 F.1.2.1 dX7_polishes_22 (lv_at hl 0 rfl) ?_
              refine mr_bipush F 40 dX7_polishes_24 (by decide +kernel) ?_
              refine mr_icmp_geN F (tgt := 62) dX7_polishes_26 (by decide) (by omega) (by omega) (fun c26 => ?_) (fun c26 => ?_)
              · exact absurd c26 (by omega)
              · refine lv_aload_n F.1.1 F.1.2.1 dX7_polishes_29 rfl (lv_at hl 4 rfl) ?_
                refine tr_get F hd hM 0 (by decide) q1720 rfl dX7_polishes_30 ?_
                refine lv_iload F.1.1 F.1.2.1 dX7_polishes_33 (lv_at hl 1 rfl) ?_
                refine tr_ld1 F hd hM (by omega) (nPolR_at r p0 k k (Nat.le_refl _)) dX7_polishes_35 ?_
                refine mr_iconst F 1 dX7_polishes_36 (by decide +kernel) ?_
                refine lv_icmp_ne (tgt := 62) F.1.1 F.1.2.1 dX7_polishes_37 (by decide) (fun c37 => ?_) (fun c37 => ?_)
                · exact absurd hs c37
                · refine lv_aload_n F.1.1 F.1.2.1 dX7_polishes_40 rfl (lv_at hl 4 rfl) ?_
                  refine tr_get F hd hM 1 (by decide) q1721 rfl dX7_polishes_41 ?_
                  refine lv_iload_n F.1.1 F.1.2.1 dX7_polishes_44 rfl (lv_at hl 5 rfl) ?_
                  refine lv_iload_n F.1.1 F.1.2.1 dX7_polishes_45 rfl (lv_at hl 3 rfl) ?_
                  refine lv_iload F.1.1 F.1.2.1 dX7_polishes_46 (lv_at hl 0 rfl) ?_
                  refine mc_Sa (As := [_, _, _]) F hM (ct_track l ) (va_cwS 3 F.1.2.2.2.2 (lw_S q1894 q1895 q88 q1896) rfl rfl rfl (by decide +kernel) (mRm_ok (by decide) (by decide))) rfl rfl hl.1 rfl (Nat.le_of_ble_eq_true rfl) dX7_polishes_48 ⟨Nat.le_of_ble_eq_true rfl, Nat.le_of_ble_eq_true rfl⟩ (fun H locs hM => ?_)
                  refine lv_dup2_11 F.1.1 F.1.2.1 dX7_polishes_51 rfl rfl ?_
                  refine tr_ld2 F hd hM (by omega) rfl dX7_polishes_52 ?_
                  refine lv_fconst2 F.1.1 F.1.2.1 dX7_polishes_53 ?_
                  refine lv_fdiv F.1.1 F.1.2.1 dX7_polishes_54 (fs_halfN' (nHlv_fs (hfs _ (by omega)))) ?_
                  refine tr_st2 F hd hM (by omega) dX7_polishes_55 (fun H locs hM => ?_)
                  refine lv_iinc (lv' := [(5, _), (4, _), (2, _), (3, _), (0, _), (1, _)]) F.1.1 F.1.2.1 dX7_polishes_56 hl (k := 0) rfl (nK_add _ 1) (by decide) rfl (fun ls hl => ?_)
                  refine lv_goto (tgt := 22) F.1.1 F.1.2.1 dX7_polishes_59 (by decide) ?_
                  rw [nHlv_s] at hM
                  exact ih2 (c0 + 1) (by omega) _ _ hM _ (lv_sub hl [0, 1, 2, 3, 4, 5] rfl)
          exact li 40 0 rfl _ _ (by rw [nHlv_0]; exact hM) _ hl
        ·
          refine lv_iload F.1.1 F.1.2.1 dX7_polishes_22 (lv_at hl 0 rfl) ?_
          refine mr_bipush F 40 dX7_polishes_24 (by decide +kernel) ?_
          refine mr_icmp_geN F (tgt := 62) dX7_polishes_26 (by decide) (by omega) (by omega) (fun c26 => ?_) (fun c26 => ?_)
          · exact absurd c26 (by decide)
          · refine lv_aload_n F.1.1 F.1.2.1 dX7_polishes_29 rfl (lv_at hl 4 rfl) ?_
            refine tr_get F hd hM 0 (by decide) q1720 rfl dX7_polishes_30 ?_
            refine lv_iload F.1.1 F.1.2.1 dX7_polishes_33 (lv_at hl 1 rfl) ?_
            refine tr_ld1 F hd hM (by omega) (nPolR_at r p0 k k (Nat.le_refl _)) dX7_polishes_35 ?_
            refine mr_iconst F 1 dX7_polishes_36 (by decide +kernel) ?_
            refine lv_icmp_ne (tgt := 62) F.1.1 F.1.2.1 dX7_polishes_37 (by decide) (fun c37 => ?_) (fun c37 => ?_)
            · refine lv_iload_n F.1.1 F.1.2.1 dX7_polishes_62 rfl (lv_at hl 2 rfl) ?_
              refine lv_aload_n F.1.1 F.1.2.1 dX7_polishes_63 rfl (lv_at hl 4 rfl) ?_
              refine tr_get F hd hM 0 (by decide) q1720 rfl dX7_polishes_64 ?_
              refine lv_iload F.1.1 F.1.2.1 dX7_polishes_67 (lv_at hl 1 rfl) ?_
              refine tr_ld1 F hd hM (by omega) (nPolR_at r p0 k k (Nat.le_refl _)) dX7_polishes_69 ?_
              refine lv_iadd F.1.1 F.1.2.1 dX7_polishes_70 ?_
              refine lv_istore_n (lv' := [(2, _), (5, _), (4, _), (3, _), (0, _), (1, _)]) F.1.1 F.1.2.1 dX7_polishes_71 rfl hl (by decide) rfl (fun ls hl => ?_)
              refine lv_aload_n F.1.1 F.1.2.1 dX7_polishes_72 rfl (lv_at hl 4 rfl) ?_
              refine tr_get F hd hM 0 (by decide) q1720 rfl dX7_polishes_73 ?_
              refine lv_iload F.1.1 F.1.2.1 dX7_polishes_76 (lv_at hl 2 rfl) ?_
              refine mr_iconst F 0 dX7_polishes_78 (by decide +kernel) ?_
              refine tr_st1 F hd hM (by omega) dX7_polishes_79 (fun H locs hM => ?_)
              refine lv_iinc (lv' := [(3, _), (2, _), (5, _), (4, _), (0, _), (1, _)]) F.1.1 F.1.2.1 dX7_polishes_80 hl (k := 3) rfl (nK_add _ 1) (by decide) rfl (fun ls hl => ?_)
              refine lv_goto (tgt := 4) F.1.1 F.1.2.1 dX7_polishes_83 (by decide) ?_
              exact ih (k + 1) (by omega) _ _ (by rw [show nPolF r f p0 (k + 1) = _ from by unfold nPolF; exact if_neg hs]; exact hM) _ (lv_sub hl [1, 0, 4, 5] rfl)
            · exact absurd c37 hs
  exact lo 3 0 rfl _ _ hM _ (lv_sub hl [1, 0, 2, 3] rfl)
set_option maxHeartbeats 4000000 in
theorem ct_sum (l : Launch) {G : mG} {ad : Nat → Nat} {g r : Nat → Int32} {f : Nat → UInt32} {h : tH} {b : Nat → Int32} {M0 : mM} {a0 n0 : Nat} (hd : tAd ad) (h1 : a0 + n0 ≤ 1566) : mMet l yX7_sum (ws_ yX7_sum cX7_sum 5 (some .int)) (mRm 1 0 0) [.ref (ad 0), .int (nI a0), .int (nI (a0 + n0))] G (pPre (tM G ad g r f h b M0)) (pPost (tM G ad g r f h b M0) (some (.int (mSm r a0 n0)))) := by
  refine mMet.of (by decide +kernel) (Nat.le_of_ble_eq_true rfl) fun p e s m args below meth c A Q M hM0 F hnm hQ hM ls hl => ?_
  have hM0 : M = tM G ad g r f h b M0 := hM0
  subst hM0
  have hl : lv_has ls 5 [(0, .ref (ad 0)), (1, .int (nI a0)), (2, .int (nI (a0 + n0)))] := hl
  refine mr_iconst F 0 dX7_sum_0 (by decide +kernel) ?_
  refine lv_istore_n (lv' := [(3, _), (0, _), (1, _), (2, _)]) F.1.1 F.1.2.1 dX7_sum_1 rfl hl (by decide) rfl (fun ls hl => ?_)
  refine lv_iload_n F.1.1 F.1.2.1 dX7_sum_2 rfl (lv_at hl 2 rfl) ?_
  refine lv_istore (lv' := [(4, _), (3, _), (0, _), (1, _), (2, _)]) F.1.1 F.1.2.1 dX7_sum_3 hl (by decide) rfl (fun ls hl => ?_)
  have lp : ∀ i k : Nat, k + i = n0 → ∀ (H : Heap) (locs : List Loc), mWd G A s.heap (tM G ad g r f h b M0) H locs → ∀ ls : Array Slot, lv_has ls 5 [(4, .int (nI (a0 + k))), (3, .int (mSm r a0 k)), (0, .ref (ad 0)), (2, .int (nI (a0 + n0)))] → W p l e (mRm 1 0 0) s m args below meth c H locs 0 0 Q (F0 m 5 ls []) := by
    intro i
    induction i with
    | zero =>
      intro k hk H locs hM ls hl
      obtain rfl : k = n0 := by omega
      refine lv_iload F.1.1 F.1.2.1 dX7_sum_5 (lv_at hl 0 rfl) ?_
      refine lv_iload_n F.1.1 F.1.2.1 dX7_sum_7 rfl (lv_at hl 3 rfl) ?_
      refine mr_icmp_geN F (tgt := 27) dX7_sum_8 (by decide) (by omega) (by omega) (fun c8 => ?_) (fun c8 => ?_)
      · refine lv_iload_n F.1.1 F.1.2.1 dX7_sum_27 rfl (lv_at hl 1 rfl) ?_
        exact mr_iret F hQ hM ⟨rfl, rfl⟩ (Nat.le_of_ble_eq_true rfl) (Nat.le_of_ble_eq_true rfl) dX7_sum_28
      · exact absurd c8 (by omega)
    | succ i ih =>
      intro k hk H locs hM ls hl
      refine lv_iload F.1.1 F.1.2.1 dX7_sum_5 (lv_at hl 0 rfl) ?_
      refine lv_iload_n F.1.1 F.1.2.1 dX7_sum_7 rfl (lv_at hl 3 rfl) ?_
      refine mr_icmp_geN F (tgt := 27) dX7_sum_8 (by decide) (by omega) (by omega) (fun c8 => ?_) (fun c8 => ?_)
      · exact absurd c8 (by omega)
      · refine lv_iload_n F.1.1 F.1.2.1 dX7_sum_11 rfl (lv_at hl 1 rfl) ?_
        refine lv_aload_n F.1.1 F.1.2.1 dX7_sum_12 rfl (lv_at hl 2 rfl) ?_
        refine tr_get F hd hM 0 (by decide) q1720 rfl dX7_sum_13 ?_
        refine lv_iload F.1.1 F.1.2.1 dX7_sum_16 (lv_at hl 0 rfl) ?_
        refine tr_ld1 F hd hM (by omega) rfl dX7_sum_18 ?_
        refine lv_iadd F.1.1 F.1.2.1 dX7_sum_19 ?_
        refine lv_istore_n (lv' := [(3, _), (4, _), (0, _), (2, _)]) F.1.1 F.1.2.1 dX7_sum_20 rfl hl (by decide) rfl (fun ls hl => ?_)
        refine lv_iinc (lv' := [(4, _), (3, _), (0, _), (2, _)]) F.1.1 F.1.2.1 dX7_sum_21 hl (k := 1) rfl (nK_add _ 1) (by decide) rfl (fun ls hl => ?_)
        refine lv_goto (tgt := 5) F.1.1 F.1.2.1 dX7_sum_24 (by decide) ?_
        exact ih (k + 1) (by omega) _ _ hM _ (lv_sub hl [0, 1, 2, 3] rfl)
  exact lp n0 0 (by omega) _ _ hM _ (lv_sub hl [0, 1, 2, 4] rfl)
