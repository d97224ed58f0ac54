/-! THE REFERENCE: signals, retries, saving -/
set_option maxHeartbeats 4000000 in
theorem ct_signalOf (l : Launch) {G : mG} {ad : Nat → Nat} {g r : Nat → Int32} {f : Nat → UInt32} {h : tH} {b : Nat → Int32} {M0 : mM} {d n p0 c0 : Nat} {o : Int32} (hd : tAd ad) (hI : mInv r f) (h1 : d < 4) (h2 : n < 3) (h3 : p0 < 6) (h4 : c0 < 40) (ho : bnd 40 o) : mMet l yX7_signalOf (ws_ yX7_signalOf cX7_signalOf 9 (some .float)) (mRm 3 0 0) [.ref (ad 0), .int (nI d), .int (nI n), .int (nI p0), .int (nI c0), .int o] G (pPre (tM G ad g r f h b M0)) (pPost (tM G ad g r f h b M0) (some (.float (mSg r f d n p0 c0 o)))) := by
  refine mMet.of (by decide +kernel) (Nat.le_of_ble_eq_true rfl) fun p e s m args below meth c A Q M hM0 F hnm hQ hM ls hl => ?_
  have hM0 : M = tM G ad g r f h b M0 := hM0
  subst hM0
  have hl : lv_has ls 9 [(0, .ref (ad 0)), (1, .int (nI d)), (2, .int (nI n)), (3, .int (nI p0)), (4, .int (nI c0)), (5, .int o)] := hl
  have hS : f (40 * (3 * p0 + n) + c0) ∈ fsL := hI.2.2.2.2.2.2.2.2.2.2.2.1 _ (by omega)
  refine lv_iload_n F.1.1 F.1.2.1 dX7_signalOf_0 rfl (lv_at hl 3 rfl) ?_
  refine lv_iload_n F.1.1 F.1.2.1 dX7_signalOf_1 rfl (lv_at hl 2 rfl) ?_
  refine lv_iload F.1.1 F.1.2.1 dX7_signalOf_2 (lv_at hl 4 rfl) ?_
  refine mc_Sa (As := [_, _, _]) F hM (ct_track l ) (va_cwS 3 F.1.2.2.2.2 (lw_S q1894 q1895 q88 q1896) rfl rfl rfl (by decide +kernel) (mRm_ok (by decide) (by decide))) rfl rfl hl.1 rfl (Nat.le_of_ble_eq_true rfl) dX7_signalOf_4 ⟨Nat.le_of_ble_eq_true rfl, Nat.le_of_ble_eq_true rfl⟩ (fun H locs hM => ?_)
  refine lv_istore (lv' := [(6, _), (0, _), (1, _), (2, _), (3, _), (4, _), (5, _)]) F.1.1 F.1.2.1 dX7_signalOf_7 hl (by decide) rfl (fun ls hl => ?_)
  refine lv_aload_n F.1.1 F.1.2.1 dX7_signalOf_9 rfl (lv_at hl 1 rfl) ?_
  refine lv_iload_n F.1.1 F.1.2.1 dX7_signalOf_10 rfl (lv_at hl 2 rfl) ?_
  refine lv_iload_n F.1.1 F.1.2.1 dX7_signalOf_11 rfl (lv_at hl 3 rfl) ?_
  refine lv_iload_n F.1.1 F.1.2.1 dX7_signalOf_12 rfl (lv_at hl 4 rfl) ?_
  refine lv_iload F.1.1 F.1.2.1 dX7_signalOf_13 (lv_at hl 5 rfl) ?_
  refine mc_Va (As := [_, _, _, _]) F hM (ct_place l hd (by omega) (by omega) (by omega)) (cwV 4 F.1.2.2.2.2 (lw_V q1897 q1899 qs49 q88 q1900) rfl rfl rfl (by decide +kernel) (mRm_ok (by decide) (by decide))) (tM_0 hd) rfl rfl rfl rfl hl.1 rfl (Nat.le_of_ble_eq_true rfl) dX7_signalOf_15 ⟨Nat.le_of_ble_eq_true rfl, Nat.le_of_ble_eq_true rfl⟩ (fun H locs hM => ?_)
  refine lv_iload F.1.1 F.1.2.1 dX7_signalOf_18 (lv_at hl 6 rfl) ?_
  refine lv_iadd F.1.1 F.1.2.1 dX7_signalOf_20 ?_
  refine lv_aload_n F.1.1 F.1.2.1 dX7_signalOf_21 rfl (lv_at hl 1 rfl) ?_
  refine tr_get F hd hM 0 (by decide) q1720 rfl dX7_signalOf_22 ?_
  refine mr_sipush F 846 dX7_signalOf_25 (by decide +kernel) ?_
  refine lv_iload F.1.1 F.1.2.1 dX7_signalOf_28 (lv_at hl 0 rfl) ?_
  refine mr_iaddN F dX7_signalOf_30 ?_
  refine tr_ld1 F hd hM (by omega) rfl dX7_signalOf_31 ?_
  refine lv_isub F.1.1 F.1.2.1 dX7_signalOf_32 ?_
  refine lv_istore (lv' := [(7, _), (6, _), (0, _), (1, _), (2, _), (3, _), (4, _), (5, _)]) F.1.1 F.1.2.1 dX7_signalOf_33 hl (by decide) rfl (fun ls hl => ?_)
  refine lv_iload F.1.1 F.1.2.1 dX7_signalOf_35 (lv_at hl 0 rfl) ?_
  refine lv_if_ge (tgt := 46) F.1.1 F.1.2.1 dX7_signalOf_37 (by decide) (fun c37 => ?_) (fun c37 => ?_)
  · have hab : mAb (mPl r d n p0 c0 + o - r (846 + (40 * (3 * p0 + n) + c0))) = mPl r d n p0 c0 + o - r (846 + (40 * (3 * p0 + n) + c0)) := by
      unfold mAb
      exact if_pos c37
    refine lv_iload F.1.1 F.1.2.1 dX7_signalOf_46 (lv_at hl 0 rfl) ?_
    refine lv_istore (lv' := [(7, _), (6, _), (0, _), (1, _), (2, _), (3, _), (4, _), (5, _)]) F.1.1 F.1.2.1 dX7_signalOf_48 hl (by decide) rfl (fun ls hl => ?_)
    refine lv_aload_n F.1.1 F.1.2.1 dX7_signalOf_50 rfl (lv_at hl 2 rfl) ?_
    refine tr_get F hd hM 0 (by decide) q1720 rfl dX7_signalOf_51 ?_
    refine mr_bipush F 126 dX7_signalOf_54 (by decide +kernel) ?_
    refine lv_iload F.1.1 F.1.2.1 dX7_signalOf_56 (lv_at hl 1 rfl) ?_
    refine mr_iaddN F dX7_signalOf_58 ?_
    refine tr_ld1 F hd hM (by omega) rfl dX7_signalOf_59 ?_
    refine lv_iconst (v := -1) F.1.1 F.1.2.1 dX7_signalOf_60 (by decide +kernel) ?_
    refine lv_icmp_eq (tgt := 71) F.1.1 F.1.2.1 dX7_signalOf_61 (by decide) (fun c61 => ?_) (fun c61 => ?_)
    · have hv : mSg r f d n p0 c0 o = FP.fconst0 := by unfold mSg; exact if_pos (Or.inl c61)
      refine lv_fconst0 F.1.1 F.1.2.1 dX7_signalOf_71 ?_
      exact mr_fret F hQ hM ⟨by rw [hv] <;> rfl, rfl⟩ (Nat.le_of_ble_eq_true rfl) (Nat.le_of_ble_eq_true rfl) dX7_signalOf_72
    · refine lv_iload F.1.1 F.1.2.1 dX7_signalOf_64 (lv_at hl 0 rfl) ?_
      refine mr_bipush F 20 dX7_signalOf_66 (by decide +kernel) ?_
      refine lv_icmp_lt (tgt := 73) F.1.1 F.1.2.1 dX7_signalOf_68 (by decide) (fun c68 => ?_) (fun c68 => ?_)
      · obtain ⟨k, hk, ek⟩ := mSg_fin hI h1 h2 h3 h4 ho (by rw [hab]; exact c68)
        have ek0 := ek
        rw [hab] at ek
        rw [ek] at hl
        refine lv_fconst1 F.1.1 F.1.2.1 dX7_signalOf_73 ?_
        refine lv_iload F.1.1 F.1.2.1 dX7_signalOf_74 (lv_at hl 0 rfl) ?_
        refine lv_i2f F.1.1 F.1.2.1 dX7_signalOf_76 ?_
        refine lv_ldcf F.1.1 F.1.2.1 F.1.2.2.2.1 (F.1.2.2.2.2 _ q1930) dX7_signalOf_77 ?_
        refine lv_fdiv F.1.1 F.1.2.1 dX7_signalOf_79 (fs_pt' hk).1 ?_
        refine lv_fsub F.1.1 F.1.2.1 dX7_signalOf_80 (fs_pt' hk).2 ?_
        refine lv_aload_n F.1.1 F.1.2.1 dX7_signalOf_81 rfl (lv_at hl 2 rfl) ?_
        refine tr_get F hd hM 1 (by decide) q1721 rfl dX7_signalOf_82 ?_
        refine lv_iload F.1.1 F.1.2.1 dX7_signalOf_85 (lv_at hl 1 rfl) ?_
        refine tr_ld2 F hd hM (by omega) rfl dX7_signalOf_87 ?_
        refine lv_fmul F.1.1 F.1.2.1 dX7_signalOf_88 (fs_sig' hk hS).1 ?_
        refine lv_fstore (lv' := [(8, _), (7, _), (6, _), (0, _), (1, _), (2, _), (3, _), (4, _), (5, _)]) F.1.1 F.1.2.1 dX7_signalOf_89 hl (by decide) rfl (fun ls hl => ?_)
        refine lv_aload_n F.1.1 F.1.2.1 dX7_signalOf_91 rfl (lv_at hl 3 rfl) ?_
        refine tr_get F hd hM 0 (by decide) q1720 rfl dX7_signalOf_92 ?_
        refine mr_bipush F 16 dX7_signalOf_95 (by decide +kernel) ?_
        refine lv_iload_n F.1.1 F.1.2.1 dX7_signalOf_97 rfl (lv_at hl 4 rfl) ?_
        refine lv_iload_n F.1.1 F.1.2.1 dX7_signalOf_98 rfl (lv_at hl 5 rfl) ?_
        refine mc_Sa (As := [_, _]) F hM (ct_head l ) (va_cwS 2 F.1.2.2.2.2 (lw_S q1793 q1794 q88 q1795) rfl rfl rfl (by decide +kernel) (mRm_ok (by decide) (by decide))) rfl rfl hl.1 rfl (Nat.le_of_ble_eq_true rfl) dX7_signalOf_99 ⟨Nat.le_of_ble_eq_true rfl, Nat.le_of_ble_eq_true rfl⟩ (fun H locs hM => ?_)
        refine mr_iaddN F dX7_signalOf_102 ?_
        refine tr_ld1 F hd hM (by omega) rfl dX7_signalOf_103 ?_
        refine mr_iconst F 1 dX7_signalOf_104 (by decide +kernel) ?_
        refine lv_icmp_ne (tgt := 115) F.1.1 F.1.2.1 dX7_signalOf_105 (by decide) (fun c105 => ?_) (fun c105 => ?_)
        · have hv : mSg r f d n p0 c0 o = FP.fmul (FP.fsub FP.fconst1 (FP.fdiv (FP.i2f (nI k)) f20)) (f (40 * (3 * p0 + n) + c0)) := by
            unfold mSg
            rw [ek0, if_neg (fun q => q.elim c61 (fun z => z ((nK_lt (by omega) (by decide)).mpr hk))), if_neg c105]
          refine lv_fload F.1.1 F.1.2.1 dX7_signalOf_115 (lv_at hl 0 rfl) ?_
          exact mr_fret F hQ hM ⟨by rw [hv] <;> rfl, rfl⟩ (Nat.le_of_ble_eq_true rfl) (Nat.le_of_ble_eq_true rfl) dX7_signalOf_117
        · have hv : mSg r f d n p0 c0 o = FP.fdiv (FP.fmul (FP.fsub FP.fconst1 (FP.fdiv (FP.i2f (nI k)) f20)) (f (40 * (3 * p0 + n) + c0))) FP.fconst2 := by
            unfold mSg
            rw [ek0, if_neg (fun q => q.elim c61 (fun z => z ((nK_lt (by omega) (by decide)).mpr hk))), if_pos c105]
          refine lv_fload F.1.1 F.1.2.1 dX7_signalOf_108 (lv_at hl 0 rfl) ?_
          refine lv_fconst2 F.1.1 F.1.2.1 dX7_signalOf_110 ?_
          refine lv_fdiv F.1.1 F.1.2.1 dX7_signalOf_111 (fs_sig' hk hS).2 ?_
          refine lv_goto (tgt := 117) F.1.1 F.1.2.1 dX7_signalOf_112 (by decide) ?_
          exact mr_fret F hQ hM ⟨by rw [hv] <;> rfl, rfl⟩ (Nat.le_of_ble_eq_true rfl) (Nat.le_of_ble_eq_true rfl) dX7_signalOf_117
      · have hv : mSg r f d n p0 c0 o = FP.fconst0 := by unfold mSg; exact if_pos (Or.inr (by rw [hab]; exact c68))
        refine lv_fconst0 F.1.1 F.1.2.1 dX7_signalOf_71 ?_
        exact mr_fret F hQ hM ⟨by rw [hv] <;> rfl, rfl⟩ (Nat.le_of_ble_eq_true rfl) (Nat.le_of_ble_eq_true rfl) dX7_signalOf_72
  · have hab : mAb (mPl r d n p0 c0 + o - r (846 + (40 * (3 * p0 + n) + c0))) = -(mPl r d n p0 c0 + o - r (846 + (40 * (3 * p0 + n) + c0))) := by
      unfold mAb
      exact if_neg c37
    refine lv_iload F.1.1 F.1.2.1 dX7_signalOf_40 (lv_at hl 0 rfl) ?_
    refine lv_ineg F.1.1 F.1.2.1 dX7_signalOf_42 ?_
    refine lv_goto (tgt := 48) F.1.1 F.1.2.1 dX7_signalOf_43 (by decide) ?_
    refine lv_istore (lv' := [(7, _), (6, _), (0, _), (1, _), (2, _), (3, _), (4, _), (5, _)]) F.1.1 F.1.2.1 dX7_signalOf_48 hl (by decide) rfl (fun ls hl => ?_)
    refine lv_aload_n F.1.1 F.1.2.1 dX7_signalOf_50 rfl (lv_at hl 2 rfl) ?_
    refine tr_get F hd hM 0 (by decide) q1720 rfl dX7_signalOf_51 ?_
    refine mr_bipush F 126 dX7_signalOf_54 (by decide +kernel) ?_
    refine lv_iload F.1.1 F.1.2.1 dX7_signalOf_56 (lv_at hl 1 rfl) ?_
    refine mr_iaddN F dX7_signalOf_58 ?_
    refine tr_ld1 F hd hM (by omega) rfl dX7_signalOf_59 ?_
    refine lv_iconst (v := -1) F.1.1 F.1.2.1 dX7_signalOf_60 (by decide +kernel) ?_
    refine lv_icmp_eq (tgt := 71) F.1.1 F.1.2.1 dX7_signalOf_61 (by decide) (fun c61 => ?_) (fun c61 => ?_)
    · have hv : mSg r f d n p0 c0 o = FP.fconst0 := by unfold mSg; exact if_pos (Or.inl c61)
      refine lv_fconst0 F.1.1 F.1.2.1 dX7_signalOf_71 ?_
      exact mr_fret F hQ hM ⟨by rw [hv] <;> rfl, rfl⟩ (Nat.le_of_ble_eq_true rfl) (Nat.le_of_ble_eq_true rfl) dX7_signalOf_72
    · refine lv_iload F.1.1 F.1.2.1 dX7_signalOf_64 (lv_at hl 0 rfl) ?_
      refine mr_bipush F 20 dX7_signalOf_66 (by decide +kernel) ?_
      refine lv_icmp_lt (tgt := 73) F.1.1 F.1.2.1 dX7_signalOf_68 (by decide) (fun c68 => ?_) (fun c68 => ?_)
      · obtain ⟨k, hk, ek⟩ := mSg_fin hI h1 h2 h3 h4 ho (by rw [hab]; exact c68)
        have ek0 := ek
        rw [hab] at ek
        rw [ek] at hl
        refine lv_fconst1 F.1.1 F.1.2.1 dX7_signalOf_73 ?_
        refine lv_iload F.1.1 F.1.2.1 dX7_signalOf_74 (lv_at hl 0 rfl) ?_
        refine lv_i2f F.1.1 F.1.2.1 dX7_signalOf_76 ?_
        refine lv_ldcf F.1.1 F.1.2.1 F.1.2.2.2.1 (F.1.2.2.2.2 _ q1930) dX7_signalOf_77 ?_
        refine lv_fdiv F.1.1 F.1.2.1 dX7_signalOf_79 (fs_pt' hk).1 ?_
        refine lv_fsub F.1.1 F.1.2.1 dX7_signalOf_80 (fs_pt' hk).2 ?_
        refine lv_aload_n F.1.1 F.1.2.1 dX7_signalOf_81 rfl (lv_at hl 2 rfl) ?_
        refine tr_get F hd hM 1 (by decide) q1721 rfl dX7_signalOf_82 ?_
        refine lv_iload F.1.1 F.1.2.1 dX7_signalOf_85 (lv_at hl 1 rfl) ?_
        refine tr_ld2 F hd hM (by omega) rfl dX7_signalOf_87 ?_
        refine lv_fmul F.1.1 F.1.2.1 dX7_signalOf_88 (fs_sig' hk hS).1 ?_
        refine lv_fstore (lv' := [(8, _), (7, _), (6, _), (0, _), (1, _), (2, _), (3, _), (4, _), (5, _)]) F.1.1 F.1.2.1 dX7_signalOf_89 hl (by decide) rfl (fun ls hl => ?_)
        refine lv_aload_n F.1.1 F.1.2.1 dX7_signalOf_91 rfl (lv_at hl 3 rfl) ?_
        refine tr_get F hd hM 0 (by decide) q1720 rfl dX7_signalOf_92 ?_
        refine mr_bipush F 16 dX7_signalOf_95 (by decide +kernel) ?_
        refine lv_iload_n F.1.1 F.1.2.1 dX7_signalOf_97 rfl (lv_at hl 4 rfl) ?_
        refine lv_iload_n F.1.1 F.1.2.1 dX7_signalOf_98 rfl (lv_at hl 5 rfl) ?_
        refine mc_Sa (As := [_, _]) F hM (ct_head l ) (va_cwS 2 F.1.2.2.2.2 (lw_S q1793 q1794 q88 q1795) rfl rfl rfl (by decide +kernel) (mRm_ok (by decide) (by decide))) rfl rfl hl.1 rfl (Nat.le_of_ble_eq_true rfl) dX7_signalOf_99 ⟨Nat.le_of_ble_eq_true rfl, Nat.le_of_ble_eq_true rfl⟩ (fun H locs hM => ?_)
        refine mr_iaddN F dX7_signalOf_102 ?_
        refine tr_ld1 F hd hM (by omega) rfl dX7_signalOf_103 ?_
        refine mr_iconst F 1 dX7_signalOf_104 (by decide +kernel) ?_
        refine lv_icmp_ne (tgt := 115) F.1.1 F.1.2.1 dX7_signalOf_105 (by decide) (fun c105 => ?_) (fun c105 => ?_)
        · have hv : mSg r f d n p0 c0 o = FP.fmul (FP.fsub FP.fconst1 (FP.fdiv (FP.i2f (nI k)) f20)) (f (40 * (3 * p0 + n) + c0)) := by
            unfold mSg
            rw [ek0, if_neg (fun q => q.elim c61 (fun z => z ((nK_lt (by omega) (by decide)).mpr hk))), if_neg c105]
          refine lv_fload F.1.1 F.1.2.1 dX7_signalOf_115 (lv_at hl 0 rfl) ?_
          exact mr_fret F hQ hM ⟨by rw [hv] <;> rfl, rfl⟩ (Nat.le_of_ble_eq_true rfl) (Nat.le_of_ble_eq_true rfl) dX7_signalOf_117
        · have hv : mSg r f d n p0 c0 o = FP.fdiv (FP.fmul (FP.fsub FP.fconst1 (FP.fdiv (FP.i2f (nI k)) f20)) (f (40 * (3 * p0 + n) + c0))) FP.fconst2 := by
            unfold mSg
            rw [ek0, if_neg (fun q => q.elim c61 (fun z => z ((nK_lt (by omega) (by decide)).mpr hk))), if_pos c105]
          refine lv_fload F.1.1 F.1.2.1 dX7_signalOf_108 (lv_at hl 0 rfl) ?_
          refine lv_fconst2 F.1.1 F.1.2.1 dX7_signalOf_110 ?_
          refine lv_fdiv F.1.1 F.1.2.1 dX7_signalOf_111 (fs_sig' hk hS).2 ?_
          refine lv_goto (tgt := 117) F.1.1 F.1.2.1 dX7_signalOf_112 (by decide) ?_
          exact mr_fret F hQ hM ⟨by rw [hv] <;> rfl, rfl⟩ (Nat.le_of_ble_eq_true rfl) (Nat.le_of_ble_eq_true rfl) dX7_signalOf_117
      · have hv : mSg r f d n p0 c0 o = FP.fconst0 := by unfold mSg; exact if_pos (Or.inr (by rw [hab]; exact c68))
        refine lv_fconst0 F.1.1 F.1.2.1 dX7_signalOf_71 ?_
        exact mr_fret F hQ hM ⟨by rw [hv] <;> rfl, rfl⟩ (Nat.le_of_ble_eq_true rfl) (Nat.le_of_ble_eq_true rfl) dX7_signalOf_72
set_option maxHeartbeats 4000000 in
theorem ct_retries (l : Launch) {G : mG} {ad : Nat → Nat} {g r : Nat → Int32} {f : Nat → UInt32} {h : tH} {b : Nat → Int32} {M0 : mM} {d n p0 c0 t : Nat} (hd : tAd ad) (hI : mInv r f) (ht : r 88 = nI t) (ht8 : t ≤ 8) (h1 : d < 4) (h2 : n < 3) (h3 : p0 < 6) (h4 : c0 < 40) : mMet l yX7_retries (ws_ yX7_retries cX7_retries 6 (some .int)) (mRm 4 0 0) [.ref (ad 0), .int (nI d), .int (nI n), .int (nI p0), .int (nI c0)] G (pPre (tM G ad g r f h b M0)) (pPost (tM G ad g r f h b M0) (some (.int (mRt r f d n p0 c0 t)))) := by
  refine mMet.of (by decide +kernel) (Nat.le_of_ble_eq_true rfl) fun p e s m args below meth c A Q M hM0 F hnm hQ hM ls hl => ?_
  have hM0 : M = tM G ad g r f h b M0 := hM0
  subst hM0
  have hl : lv_has ls 6 [(0, .ref (ad 0)), (1, .int (nI d)), (2, .int (nI n)), (3, .int (nI p0)), (4, .int (nI c0))] := hl
  refine mr_iconst F 0 dX7_retries_0 (by decide +kernel) ?_
  refine lv_istore (lv' := [(5, _), (0, _), (1, _), (2, _), (3, _), (4, _)]) F.1.1 F.1.2.1 dX7_retries_1 hl (by decide) rfl (fun ls hl => ?_)
  have lp : ∀ i k : Nat, k + i = 2 * t + 1 → mRt r f d n p0 c0 t = mFst (fun k => mOk (mSg r f d n p0 c0 (mTr k))) i k → ∀ (H : Heap) (locs : List Loc), mWd G A s.heap (tM G ad g r f h b M0) H locs → ∀ ls : Array Slot, lv_has ls 6 [(5, .int (nI k)), (0, .ref (ad 0)), (1, .int (nI d)), (2, .int (nI n)), (3, .int (nI p0)), (4, .int (nI c0))] → W p l e (mRm 4 0 0) s m args below meth c H locs 0 0 Q (F0 m 3 ls []) := by
    intro i
    induction i with
    | zero =>
      intro k hk hj H locs hM ls hl
      refine lv_iload F.1.1 F.1.2.1 dX7_retries_3 (lv_at hl 0 rfl) ?_
      refine mr_iconst F 2 dX7_retries_5 (by decide +kernel) ?_
      refine lv_aload_n F.1.1 F.1.2.1 dX7_retries_6 rfl (lv_at hl 1 rfl) ?_
      refine tr_get F hd hM 0 (by decide) q1720 rfl dX7_retries_7 ?_
      refine mr_bipush F 88 dX7_retries_10 (by decide +kernel) ?_
      refine tr_ld1 F hd hM (by omega) ht dX7_retries_12 ?_
      refine mr_imulN F dX7_retries_13 ?_
      refine mr_icmp_gtN F (tgt := 46) dX7_retries_14 (by decide) (by omega) (by omega) (fun c14 => ?_) (fun c14 => ?_)
      · refine lv_iconst (v := -1) F.1.1 F.1.2.1 dX7_retries_46 (by decide +kernel) ?_
        exact mr_iret F hQ hM ⟨by rw [hj]; rfl, rfl⟩ (Nat.le_of_ble_eq_true rfl) (Nat.le_of_ble_eq_true rfl) dX7_retries_47
      · exact absurd c14 (by omega)
    | succ i ih =>
      intro k hk hj H locs hM ls hl
      have hT := mTr_bnd (show k < 17 by omega)
      refine lv_iload F.1.1 F.1.2.1 dX7_retries_3 (lv_at hl 0 rfl) ?_
      refine mr_iconst F 2 dX7_retries_5 (by decide +kernel) ?_
      refine lv_aload_n F.1.1 F.1.2.1 dX7_retries_6 rfl (lv_at hl 1 rfl) ?_
      refine tr_get F hd hM 0 (by decide) q1720 rfl dX7_retries_7 ?_
      refine mr_bipush F 88 dX7_retries_10 (by decide +kernel) ?_
      refine tr_ld1 F hd hM (by omega) ht dX7_retries_12 ?_
      refine mr_imulN F dX7_retries_13 ?_
      refine mr_icmp_gtN F (tgt := 46) dX7_retries_14 (by decide) (by omega) (by omega) (fun c14 => ?_) (fun c14 => ?_)
      · exact absurd c14 (by omega)
      · refine lv_aload_n F.1.1 F.1.2.1 dX7_retries_17 rfl (lv_at hl 1 rfl) ?_
        refine lv_iload_n F.1.1 F.1.2.1 dX7_retries_18 rfl (lv_at hl 2 rfl) ?_
        refine lv_iload_n F.1.1 F.1.2.1 dX7_retries_19 rfl (lv_at hl 3 rfl) ?_
        refine lv_iload_n F.1.1 F.1.2.1 dX7_retries_20 rfl (lv_at hl 4 rfl) ?_
        refine lv_iload F.1.1 F.1.2.1 dX7_retries_21 (lv_at hl 5 rfl) ?_
        refine lv_iload F.1.1 F.1.2.1 dX7_retries_23 (lv_at hl 0 rfl) ?_
        refine mc_Sa (As := [_]) F hM (ct_tried l ) (va_cwS 1 F.1.2.2.2.2 (lw_S q1923 q1924 q88 q1925) rfl rfl rfl (by decide +kernel) (mRm_ok (by decide) (by decide))) rfl rfl hl.1 rfl (Nat.le_of_ble_eq_true rfl) dX7_retries_25 ⟨Nat.le_of_ble_eq_true rfl, Nat.le_of_ble_eq_true rfl⟩ (fun H locs hM => ?_)
        refine mc_Va (As := [_, _, _, _, _]) F hM (ct_signalOf l hd (by assumption) (by omega) (by omega) (by omega) (by omega) (by assumption)) (cwV 5 F.1.2.2.2.2 (lw_V q1926 q1928 qs54 q88 q1929) rfl rfl rfl (by decide +kernel) (mRm_ok (by decide) (by decide))) (tM_0 hd) rfl rfl rfl rfl hl.1 rfl (Nat.le_of_ble_eq_true rfl) dX7_retries_28 ⟨Nat.le_of_ble_eq_true rfl, Nat.le_of_ble_eq_true rfl⟩ (fun H locs hM => ?_)
        refine lv_ldcf F.1.1 F.1.2.1 F.1.2.2.2.1 (F.1.2.2.2.2 _ q1901) dX7_retries_31 ?_
        refine lv_fcmp F.1.1 F.1.2.1 dX7_retries_33 ?_
        refine lv_if_lt (tgt := 40) F.1.1 F.1.2.1 dX7_retries_34 (by decide) (fun c34 => ?_) (fun c34 => ?_)
        · refine lv_iinc (lv' := [(5, _), (0, _), (1, _), (2, _), (3, _), (4, _)]) F.1.1 F.1.2.1 dX7_retries_40 hl (k := 0) rfl (nK_add _ 1) (by decide) rfl (fun ls hl => ?_)
          refine lv_goto (tgt := 3) F.1.1 F.1.2.1 dX7_retries_43 (by decide) ?_
          exact ih (k + 1) (by omega) (by rw [hj, mFst_f (show ¬ mOk (mSg r f d n p0 c0 (mTr k)) from fun q => q c34)]) _ _ hM _ (lv_sub hl [0, 1, 2, 3, 4, 5] rfl)
        · refine lv_iload F.1.1 F.1.2.1 dX7_retries_37 (lv_at hl 0 rfl) ?_
          exact mr_iret F hQ hM ⟨by rw [hj, mFst_t (show mOk (mSg r f d n p0 c0 (mTr k)) from c34)], rfl⟩ (Nat.le_of_ble_eq_true rfl) (Nat.le_of_ble_eq_true rfl) dX7_retries_39
  exact lp (2 * t + 1) 0 (by omega) rfl _ _ hM _ hl
set_option maxHeartbeats 4000000 in
theorem ct_records (l : Launch) {G : mG} {ad : Nat → Nat} {g r : Nat → Int32} {f : Nat → UInt32} {h : tH} {b : Nat → Int32} {M0 : mM} {m0 : Nat} (hd : tAd ad) (hg : g 4 = nI m0) (hm : m0 ≤ 5) : mMet l yX7_records (ws_ yX7_records cX7_records 2 none) (mRm 1 0 0) [.ref (ad 0)] G (pPre (tM G ad g r f h b M0)) (pPost (tM G ad (va_up g 4 (nI (mK m0 + 1))) r f (mRc m0 h r f) b M0) (none)) := by
  refine mMet.of (by decide +kernel) (Nat.le_of_ble_eq_true rfl) fun p e s m args below meth c A Q M hM0 F hnm hQ hM ls hl => ?_
  have hM0 : M = tM G ad g r f h b M0 := hM0
  subst hM0
  have hl : lv_has ls 2 [(0, .ref (ad 0))] := hl
  have jn : ∀ (g2 : Nat → Int32), g2 4 = nI (mK m0) → va_up g2 4 (nI (mK m0 + 1)) = va_up g 4 (nI (mK m0 + 1)) → ∀ (H : Heap) (locs : List Loc), mWd G A s.heap (tM G ad g2 r f ((if m0 = 5 then va_cpy h.1 h.1 1566 0 6264 else h.1), (if m0 = 5 then va_cpy h.2.1 h.2.1 720 0 2880 else h.2.1), h.2.2) b M0) H locs → ∀ ls : Array Slot, lv_has ls 2 [(0, .ref (ad 0))] → W p l e (mRm 1 0 0) s m args below meth c H locs 0 0 Q (F0 m 80 ls []) := by
    intro g2 hg2 hgu H locs hM ls hl
    have h4 := mK_lt hm
    refine mr_iconst F 0 dX7_records_80 (by decide +kernel) ?_
    refine lv_istore_n (lv' := [(1, _), (0, _)]) F.1.1 F.1.2.1 dX7_records_81 rfl hl (by decide) rfl (fun ls hl => ?_)
    have lc : ∀ i k : Nat, k + i = 1566 → ∀ (H : Heap) (locs : List Loc), mWd G A s.heap (tM G ad g2 r f (va_cpy r (if m0 = 5 then va_cpy h.1 h.1 1566 0 6264 else h.1) 0 (1566 * mK m0) k, (if m0 = 5 then va_cpy h.2.1 h.2.1 720 0 2880 else h.2.1), h.2.2) b M0) H locs → ∀ ls : Array Slot, lv_has ls 2 [(1, .int (nI k)), (0, .ref (ad 0))] → W p l e (mRm 1 0 0) s m args below meth c H locs 0 0 Q (F0 m 82 ls []) := by
      intro i
      induction i with
      | zero =>
        intro k hk H locs hM ls hl
        obtain rfl : k = 1566 := by omega
        refine lv_iload_n F.1.1 F.1.2.1 dX7_records_82 rfl (lv_at hl 0 rfl) ?_
        refine mr_sipush F 1566 dX7_records_83 (by decide +kernel) ?_
        refine mr_icmp_geN F (tgt := 116) dX7_records_86 (by decide) (by omega) (by omega) (fun c86 => ?_) (fun c86 => ?_)
        · refine mr_iconst F 0 dX7_records_116 (by decide +kernel) ?_
          refine lv_istore_n (lv' := [(1, _), (0, _)]) F.1.1 F.1.2.1 dX7_records_117 rfl hl (by decide) rfl (fun ls hl => ?_)
          have ld : ∀ i k : Nat, k + i = 720 → ∀ (H : Heap) (locs : List Loc), mWd G A s.heap (tM G ad g2 r f (va_cpy r (if m0 = 5 then va_cpy h.1 h.1 1566 0 6264 else h.1) 0 (1566 * mK m0) 1566, va_cpy f (if m0 = 5 then va_cpy h.2.1 h.2.1 720 0 2880 else h.2.1) 0 (720 * mK m0) k, h.2.2) b M0) H locs → ∀ ls : Array Slot, lv_has ls 2 [(1, .int (nI k)), (0, .ref (ad 0))] → W p l e (mRm 1 0 0) s m args below meth c H locs 0 0 Q (F0 m 118 ls []) := by
            intro i
            induction i with
            | zero =>
              intro k hk H locs hM ls hl
              obtain rfl : k = 720 := by omega
              refine lv_iload_n F.1.1 F.1.2.1 dX7_records_118 rfl (lv_at hl 0 rfl) ?_
              refine mr_sipush F 720 dX7_records_119 (by decide +kernel) ?_
              refine mr_icmp_geN F (tgt := 152) dX7_records_122 (by decide) (by omega) (by omega) (fun c122 => ?_) (fun c122 => ?_)
              · refine lv_aload_n F.1.1 F.1.2.1 dX7_records_152 rfl (lv_at hl 1 rfl) ?_
                refine lv_dup F.1.1 F.1.2.1 dX7_records_153 rfl ?_
                refine tr_get F hd hM 4 (by decide) q1724 (congrArg (fun z => some (Value.int z)) hg2) dX7_records_154 ?_
                refine mr_iconst F 1 dX7_records_157 (by decide +kernel) ?_
                refine mr_iaddN F dX7_records_158 ?_
                refine tr_put F hd hM 4 (by decide) q1724 rfl rfl rfl (tw_s4 _ _ _) dX7_records_159 (fun H locs hM => ?_)
                exact mr_vret F hQ hM ⟨rfl, by rw [hgu]; rfl⟩ (Nat.le_of_ble_eq_true rfl) (Nat.le_of_ble_eq_true rfl) dX7_records_162
              · exact absurd c122 (by omega)
            | succ i ih =>
              intro k hk H locs hM ls hl
              refine lv_iload_n F.1.1 F.1.2.1 dX7_records_118 rfl (lv_at hl 0 rfl) ?_
              refine mr_sipush F 720 dX7_records_119 (by decide +kernel) ?_
              refine mr_icmp_geN F (tgt := 152) dX7_records_122 (by decide) (by omega) (by omega) (fun c122 => ?_) (fun c122 => ?_)
              · exact absurd c122 (by omega)
              · refine lv_aload_n F.1.1 F.1.2.1 dX7_records_125 rfl (lv_at hl 1 rfl) ?_
                refine tr_get F hd hM 3 (by decide) q1723 rfl dX7_records_126 ?_
                refine mr_sipush F 720 dX7_records_129 (by decide +kernel) ?_
                refine lv_aload_n F.1.1 F.1.2.1 dX7_records_132 rfl (lv_at hl 1 rfl) ?_
                refine tr_get F hd hM 4 (by decide) q1724 (congrArg (fun z => some (Value.int z)) hg2) dX7_records_133 ?_
                refine mr_imulN F dX7_records_136 ?_
                refine lv_iload_n F.1.1 F.1.2.1 dX7_records_137 rfl (lv_at hl 0 rfl) ?_
                refine mr_iaddN F dX7_records_138 ?_
                refine lv_aload_n F.1.1 F.1.2.1 dX7_records_139 rfl (lv_at hl 1 rfl) ?_
                refine tr_get F hd hM 1 (by decide) q1721 rfl dX7_records_140 ?_
                refine lv_iload_n F.1.1 F.1.2.1 dX7_records_143 rfl (lv_at hl 0 rfl) ?_
                refine tr_ld2 F hd hM (by omega) (congrArg f (Nat.zero_add k).symm) dX7_records_144 ?_
                refine tr_st4 F hd hM (by omega) dX7_records_145 (fun H locs hM => ?_)
                refine lv_iinc (lv' := [(1, _), (0, _)]) F.1.1 F.1.2.1 dX7_records_146 hl (k := 0) rfl (nK_add _ 1) (by decide) rfl (fun ls hl => ?_)
                refine lv_goto (tgt := 118) F.1.1 F.1.2.1 dX7_records_149 (by decide) ?_
                rw [cp_up] at hM
                exact ih (k + 1) (by omega) _ _ hM _ (lv_sub hl [0, 1] rfl)
          exact ld 720 0 (by omega) _ _ (by rw [cp_zero]; exact hM) _ hl
        · exact absurd c86 (by omega)
      | succ i ih =>
        intro k hk H locs hM ls hl
        refine lv_iload_n F.1.1 F.1.2.1 dX7_records_82 rfl (lv_at hl 0 rfl) ?_
        refine mr_sipush F 1566 dX7_records_83 (by decide +kernel) ?_
        refine mr_icmp_geN F (tgt := 116) dX7_records_86 (by decide) (by omega) (by omega) (fun c86 => ?_) (fun c86 => ?_)
        · exact absurd c86 (by omega)
        · refine lv_aload_n F.1.1 F.1.2.1 dX7_records_89 rfl (lv_at hl 1 rfl) ?_
          refine tr_get F hd hM 2 (by decide) q1722 rfl dX7_records_90 ?_
          refine mr_sipush F 1566 dX7_records_93 (by decide +kernel) ?_
          refine lv_aload_n F.1.1 F.1.2.1 dX7_records_96 rfl (lv_at hl 1 rfl) ?_
          refine tr_get F hd hM 4 (by decide) q1724 (congrArg (fun z => some (Value.int z)) hg2) dX7_records_97 ?_
          refine mr_imulN F dX7_records_100 ?_
          refine lv_iload_n F.1.1 F.1.2.1 dX7_records_101 rfl (lv_at hl 0 rfl) ?_
          refine mr_iaddN F dX7_records_102 ?_
          refine lv_aload_n F.1.1 F.1.2.1 dX7_records_103 rfl (lv_at hl 1 rfl) ?_
          refine tr_get F hd hM 0 (by decide) q1720 rfl dX7_records_104 ?_
          refine lv_iload_n F.1.1 F.1.2.1 dX7_records_107 rfl (lv_at hl 0 rfl) ?_
          refine tr_ld1 F hd hM (by omega) (congrArg r (Nat.zero_add k).symm) dX7_records_108 ?_
          refine tr_st3 F hd hM (by omega) dX7_records_109 (fun H locs hM => ?_)
          refine lv_iinc (lv' := [(1, _), (0, _)]) F.1.1 F.1.2.1 dX7_records_110 hl (k := 0) rfl (nK_add _ 1) (by decide) rfl (fun ls hl => ?_)
          refine lv_goto (tgt := 82) F.1.1 F.1.2.1 dX7_records_113 (by decide) ?_
          rw [cp_up] at hM
          exact ih (k + 1) (by omega) _ _ hM _ (lv_sub hl [0, 1] rfl)
    exact lc 1566 0 (by omega) _ _ (by rw [cp_zero]; exact hM) _ hl
  refine lv_aload_n F.1.1 F.1.2.1 dX7_records_0 rfl (lv_at hl 0 rfl) ?_
  refine tr_get F hd hM 4 (by decide) q1724 (congrArg (fun z => some (Value.int z)) hg) dX7_records_1 ?_
  refine mr_iconst F 5 dX7_records_4 (by decide +kernel) ?_
  refine mr_icmp_neN F (tgt := 80) dX7_records_5 (by decide) (by omega) (by omega) (fun c5 => ?_) (fun c5 => ?_)
  · exact jn g (by rw [hg, show mK m0 = m0 from if_neg c5]) rfl _ _ (by rw [if_neg c5, if_neg c5]; exact hM) _ hl
  · subst c5
    refine mr_iconst F 0 dX7_records_8 (by decide +kernel) ?_
    refine lv_istore_n (lv' := [(1, _), (0, _)]) F.1.1 F.1.2.1 dX7_records_9 rfl hl (by decide) rfl (fun ls hl => ?_)
    have la : ∀ i k : Nat, k + i = 6264 → ∀ (H : Heap) (locs : List Loc), mWd G A s.heap (tM G ad (g) r f ((va_cpy h.1 h.1 1566 0 k, h.2)) b M0) H locs → ∀ ls : Array Slot, lv_has ls 2 [(1, .int (nI k)), (0, .ref (ad 0))] → W p l e (mRm 1 0 0) s m args below meth c H locs 0 0 Q (F0 m 10 ls []) := by
      intro i
      induction i with
      | zero =>
        intro k hk H locs hM ls hl
        obtain rfl : k = 6264 := by omega
        refine lv_iload_n F.1.1 F.1.2.1 dX7_records_10 rfl (lv_at hl 0 rfl) ?_
        refine mr_sipush F 6264 dX7_records_11 (by decide +kernel) ?_
        refine mr_icmp_geN F (tgt := 39) dX7_records_14 (by decide) (by omega) (by omega) (fun c14 => ?_) (fun c14 => ?_)
        · refine mr_iconst F 0 dX7_records_39 (by decide +kernel) ?_
          refine lv_istore_n (lv' := [(1, _), (0, _)]) F.1.1 F.1.2.1 dX7_records_40 rfl hl (by decide) rfl (fun ls hl => ?_)
          have lb : ∀ i k : Nat, k + i = 2880 → ∀ (H : Heap) (locs : List Loc), mWd G A s.heap (tM G ad (g) r f ((va_cpy h.1 h.1 1566 0 6264, va_cpy h.2.1 h.2.1 720 0 k, h.2.2)) b M0) H locs → ∀ ls : Array Slot, lv_has ls 2 [(1, .int (nI k)), (0, .ref (ad 0))] → W p l e (mRm 1 0 0) s m args below meth c H locs 0 0 Q (F0 m 41 ls []) := by
            intro i
            induction i with
            | zero =>
              intro k hk H locs hM ls hl
              obtain rfl : k = 2880 := by omega
              refine lv_iload_n F.1.1 F.1.2.1 dX7_records_41 rfl (lv_at hl 0 rfl) ?_
              refine mr_sipush F 2880 dX7_records_42 (by decide +kernel) ?_
              refine mr_icmp_geN F (tgt := 70) dX7_records_45 (by decide) (by omega) (by omega) (fun c45 => ?_) (fun c45 => ?_)
              · refine lv_aload_n F.1.1 F.1.2.1 dX7_records_70 rfl (lv_at hl 1 rfl) ?_
                refine lv_dup F.1.1 F.1.2.1 dX7_records_71 rfl ?_
                refine tr_get F hd hM 4 (by decide) q1724 (congrArg (fun z => some (Value.int z)) hg) dX7_records_72 ?_
                refine mr_iconst F 1 dX7_records_75 (by decide +kernel) ?_
                refine mr_isubN F (by omega) dX7_records_76 ?_
                refine tr_put F hd hM 4 (by decide) q1724 rfl rfl rfl (tw_s4 _ _ _) dX7_records_77 (fun H locs hM => ?_)
                exact jn _ (by rw [va_up_self]; rfl) (bx_uu _ _ _ _) _ _ hM _ (lv_sub hl [1] rfl)
              · exact absurd c45 (by omega)
            | succ i ih =>
              intro k hk H locs hM ls hl
              refine lv_iload_n F.1.1 F.1.2.1 dX7_records_41 rfl (lv_at hl 0 rfl) ?_
              refine mr_sipush F 2880 dX7_records_42 (by decide +kernel) ?_
              refine mr_icmp_geN F (tgt := 70) dX7_records_45 (by decide) (by omega) (by omega) (fun c45 => ?_) (fun c45 => ?_)
              · exact absurd c45 (by omega)
              · refine lv_aload_n F.1.1 F.1.2.1 dX7_records_48 rfl (lv_at hl 1 rfl) ?_
                refine tr_get F hd hM 3 (by decide) q1723 rfl dX7_records_49 ?_
                refine lv_iload_n F.1.1 F.1.2.1 dX7_records_52 rfl (lv_at hl 0 rfl) ?_
                refine lv_aload_n F.1.1 F.1.2.1 dX7_records_53 rfl (lv_at hl 1 rfl) ?_
                refine tr_get F hd hM 3 (by decide) q1723 rfl dX7_records_54 ?_
                refine mr_sipush F 720 dX7_records_57 (by decide +kernel) ?_
                refine lv_iload_n F.1.1 F.1.2.1 dX7_records_60 rfl (lv_at hl 0 rfl) ?_
                refine mr_iaddN F dX7_records_61 ?_
                refine tr_ld4 F hd hM (by omega) (cp_ahead h.2.1 720 k (by decide)) dX7_records_62 ?_
                refine tr_st4 F hd hM (by omega) dX7_records_63 (fun H locs hM => ?_)
                refine lv_iinc (lv' := [(1, _), (0, _)]) F.1.1 F.1.2.1 dX7_records_64 hl (k := 0) rfl (nK_add _ 1) (by decide) rfl (fun ls hl => ?_)
                refine lv_goto (tgt := 41) F.1.1 F.1.2.1 dX7_records_67 (by decide) ?_
                rw [cp_up0] at hM
                exact ih (k + 1) (by omega) _ _ hM _ (lv_sub hl [0, 1] rfl)
          exact lb 2880 0 (by omega) _ _ (by rw [cp_zero]; exact hM) _ hl
        · exact absurd c14 (by omega)
      | succ i ih =>
        intro k hk H locs hM ls hl
        refine lv_iload_n F.1.1 F.1.2.1 dX7_records_10 rfl (lv_at hl 0 rfl) ?_
        refine mr_sipush F 6264 dX7_records_11 (by decide +kernel) ?_
        refine mr_icmp_geN F (tgt := 39) dX7_records_14 (by decide) (by omega) (by omega) (fun c14 => ?_) (fun c14 => ?_)
        · exact absurd c14 (by omega)
        · refine lv_aload_n F.1.1 F.1.2.1 dX7_records_17 rfl (lv_at hl 1 rfl) ?_
          refine tr_get F hd hM 2 (by decide) q1722 rfl dX7_records_18 ?_
          refine lv_iload_n F.1.1 F.1.2.1 dX7_records_21 rfl (lv_at hl 0 rfl) ?_
          refine lv_aload_n F.1.1 F.1.2.1 dX7_records_22 rfl (lv_at hl 1 rfl) ?_
          refine tr_get F hd hM 2 (by decide) q1722 rfl dX7_records_23 ?_
          refine mr_sipush F 1566 dX7_records_26 (by decide +kernel) ?_
          refine lv_iload_n F.1.1 F.1.2.1 dX7_records_29 rfl (lv_at hl 0 rfl) ?_
          refine mr_iaddN F dX7_records_30 ?_
          refine tr_ld3 F hd hM (by omega) (cp_ahead h.1 1566 k (by decide)) dX7_records_31 ?_
          refine tr_st3 F hd hM (by omega) dX7_records_32 (fun H locs hM => ?_)
          refine lv_iinc (lv' := [(1, _), (0, _)]) F.1.1 F.1.2.1 dX7_records_33 hl (k := 0) rfl (nK_add _ 1) (by decide) rfl (fun ls hl => ?_)
          refine lv_goto (tgt := 10) F.1.1 F.1.2.1 dX7_records_36 (by decide) ?_
          rw [cp_up0] at hM
          exact ih (k + 1) (by omega) _ _ hM _ (lv_sub hl [0, 1] rfl)
    exact la 6264 0 (by omega) _ _ (by rw [cp_zero]; exact hM) _ hl
set_option maxHeartbeats 4000000 in
theorem ct_sets (l : Launch) {G : mG} {ad : Nat → Nat} {g r : Nat → Int32} {f : Nat → UInt32} {h : tH} {b : Nat → Int32} {M0 : mM} {m0 k : Nat} {x : Int32} (hd : tAd ad) (hg : g 4 = nI m0) (hm : m0 ≤ 5) (hk : k < 1566) : mMet l yX7_sets (ws_ yX7_sets cX7_sets 4 (some .int)) (mRm 2 0 0) [.ref (ad 0), .int (nI k), .int x] G (pPre (tM G ad g r f h b M0)) (pPost (tM G ad (va_up g 4 (nI (mK m0 + 1))) (va_up r k x) f (mRc m0 h r f) b M0) (some (.int (r k)))) := by
  refine mMet.of (by decide +kernel) (Nat.le_of_ble_eq_true rfl) fun p e s m args below meth c A Q M hM0 F hnm hQ hM ls hl => ?_
  have hM0 : M = tM G ad g r f h b M0 := hM0
  subst hM0
  have hl : lv_has ls 4 [(0, .ref (ad 0)), (1, .int (nI k)), (2, .int x)] := hl
  refine lv_aload_n F.1.1 F.1.2.1 dX7_sets_0 rfl (lv_at hl 0 rfl) ?_
  refine mc_Vv (As := []) F hM (ct_records l hd (by assumption) (by omega)) (cwV 0 F.1.2.2.2.2 (lw_V q1800 q1802 qs36 q88 q1803) rfl rfl rfl (by decide +kernel) (mRm_ok (by decide) (by decide))) (tM_0 hd) rfl rfl rfl rfl hl.1 rfl (Nat.le_of_ble_eq_true rfl) dX7_sets_1 ⟨Nat.le_of_ble_eq_true rfl, Nat.le_of_ble_eq_true rfl⟩ (fun H locs hM => ?_)
  refine lv_aload_n F.1.1 F.1.2.1 dX7_sets_4 rfl (lv_at hl 0 rfl) ?_
  refine tr_get F hd hM 0 (by decide) q1720 rfl dX7_sets_5 ?_
  refine lv_iload_n F.1.1 F.1.2.1 dX7_sets_8 rfl (lv_at hl 1 rfl) ?_
  refine tr_ld1 F hd hM (by omega) rfl dX7_sets_9 ?_
  refine lv_istore_n (lv' := [(3, _), (0, _), (1, _), (2, _)]) F.1.1 F.1.2.1 dX7_sets_10 rfl hl (by decide) rfl (fun ls hl => ?_)
  refine lv_aload_n F.1.1 F.1.2.1 dX7_sets_11 rfl (lv_at hl 1 rfl) ?_
  refine tr_get F hd hM 0 (by decide) q1720 rfl dX7_sets_12 ?_
  refine lv_iload_n F.1.1 F.1.2.1 dX7_sets_15 rfl (lv_at hl 2 rfl) ?_
  refine lv_iload_n F.1.1 F.1.2.1 dX7_sets_16 rfl (lv_at hl 3 rfl) ?_
  refine tr_st1 F hd hM (by omega) dX7_sets_17 (fun H locs hM => ?_)
  refine lv_iload_n F.1.1 F.1.2.1 dX7_sets_18 rfl (lv_at hl 0 rfl) ?_
  exact mr_iret F hQ hM ⟨rfl, rfl⟩ (Nat.le_of_ble_eq_true rfl) (Nat.le_of_ble_eq_true rfl) dX7_sets_19
