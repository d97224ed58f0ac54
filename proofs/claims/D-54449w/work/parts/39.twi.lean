/-! THE REFERENCE: signs and numbers of a text -/
set_option maxHeartbeats 4000000 in
theorem ct_sign (l : Launch) {G : mG} {ad : Nat → Nat} {g r : Nat → Int32} {f : Nat → UInt32} {h : tH} {b : Nat → Int32} {M0 : mM} {lb sp : Nat} (hd : tAd ad) (hsp : g 11 = nI sp) (hlb : g 9 = nI lb) (hl60 : lb ≤ 60) (hspl : sp ≤ lb) : mMet l yX7_sign (ws_ yX7_sign cX7_sign 1 (some .int)) (mRm 1 0 0) [.ref (ad 0)] G (pPre (tM G ad g r f h b M0)) (pPost (tM G ad g r f h b M0) (some (.int (tSg b lb sp)))) := by
  refine mMet.of (by decide +kernel) (Nat.le_of_ble_eq_true rfl) fun p e s m args below meth c A Q M hM0 F hnm hQ hM ls hl => ?_
  have hM0 : M = tM G ad g r f h b M0 := hM0
  subst hM0
  have hl : lv_has ls 1 [(0, .ref (ad 0))] := hl
  refine lv_aload_n F.1.1 F.1.2.1 dX7_sign_0 rfl (lv_at hl 0 rfl) ?_
  refine tr_get F hd hM 11 (by decide) q1731 (congrArg (fun z => some (Value.int z)) hsp) dX7_sign_1 ?_
  refine lv_aload_n F.1.1 F.1.2.1 dX7_sign_4 rfl (lv_at hl 0 rfl) ?_
  refine tr_get F hd hM 9 (by decide) q1729 (congrArg (fun z => some (Value.int z)) hlb) dX7_sign_5 ?_
  refine mr_icmp_geN F (tgt := 23) dX7_sign_8 (by decide) (by omega) (by omega) (fun c8 => ?_) (fun c8 => ?_)
  · have hv : tSg b lb sp = nI 0 := if_neg (by omega)
    refine mr_iconst F 0 dX7_sign_23 (by decide +kernel) ?_
    exact mr_iret F hQ hM ⟨by rw [hv], rfl⟩ (Nat.le_of_ble_eq_true rfl) (Nat.le_of_ble_eq_true rfl) dX7_sign_24
  · have hv : tSg b lb sp = b sp := if_pos (by omega)
    refine lv_aload_n F.1.1 F.1.2.1 dX7_sign_11 rfl (lv_at hl 0 rfl) ?_
    refine tr_get F hd hM 8 (by decide) q1728 rfl dX7_sign_12 ?_
    refine lv_aload_n F.1.1 F.1.2.1 dX7_sign_15 rfl (lv_at hl 0 rfl) ?_
    refine tr_get F hd hM 11 (by decide) q1731 (congrArg (fun z => some (Value.int z)) hsp) dX7_sign_16 ?_
    refine tr_ld7 F hd hM (by omega) rfl dX7_sign_19 ?_
    refine lv_goto (tgt := 24) F.1.1 F.1.2.1 dX7_sign_20 (by decide) ?_
    exact mr_iret F hQ hM ⟨by rw [hv], rfl⟩ (Nat.le_of_ble_eq_true rfl) (Nat.le_of_ble_eq_true rfl) dX7_sign_24
set_option maxHeartbeats 4000000 in
theorem ct_needs (l : Launch) {G : mG} {ad : Nat → Nat} {g r : Nat → Int32} {f : Nat → UInt32} {h : tH} {b : Nat → Int32} {M0 : mM} {lb sp : Nat} {lo hi : Int32} {w : Bool} (hd : tAd ad) (hsp : g 11 = nI sp) (hlb : g 9 = nI lb) (hl60 : lb ≤ 60) (hspl : sp ≤ lb) (hw : g 12 = wI w) : mMet l yX7_needs (ws_ yX7_needs cX7_needs 4 (some .int)) (mRm 2 0 0) [.ref (ad 0), .int lo, .int hi] G (pPre (tM G ad g r f h b M0)) (pPost (tM G ad (va_up (va_up g 12 (wI (tNd b lb lo hi sp w))) 11 (nI (tAdv (tNd b lb lo hi sp w) sp))) r f h b M0) (some (.int (tSg b lb sp)))) := by
  refine mMet.of (by decide +kernel) (Nat.le_of_ble_eq_true rfl) fun p e s m args below meth c A Q M hM0 F hnm hQ hM ls hl => ?_
  have hM0 : M = tM G ad g r f h b M0 := hM0
  subst hM0
  have hl : lv_has ls 4 [(0, .ref (ad 0)), (1, .int lo), (2, .int hi)] := hl
  refine lv_aload_n F.1.1 F.1.2.1 dX7_needs_0 rfl (lv_at hl 0 rfl) ?_
  refine mc_Va (As := []) F hM (ct_sign l hd (by first | assumption | rfl) (by first | assumption | exact hlb) (by omega) (by first | assumption | omega)) (cwV 0 F.1.2.2.2.2 (lw_V q2105 q2107 qs64 q88 q2108) rfl rfl rfl (by decide +kernel) (mRm_ok (by decide) (by decide))) (tM_0 hd) rfl rfl rfl rfl hl.1 rfl (Nat.le_of_ble_eq_true rfl) dX7_needs_1 ⟨Nat.le_of_ble_eq_true rfl, Nat.le_of_ble_eq_true rfl⟩ (fun H locs hM => ?_)
  refine lv_istore_n (lv' := [(3, _), (0, _), (1, _), (2, _)]) F.1.1 F.1.2.1 dX7_needs_4 rfl hl (by decide) rfl (fun ls hl => ?_)
  refine lv_aload_n F.1.1 F.1.2.1 dX7_needs_5 rfl (lv_at hl 1 rfl) ?_
  refine lv_aload_n F.1.1 F.1.2.1 dX7_needs_6 rfl (lv_at hl 1 rfl) ?_
  refine tr_get F hd hM 12 (by decide) q1732 (congrArg (fun z => some (Value.int z)) hw) dX7_needs_7 ?_
  refine lv_if_eq (tgt := 26) F.1.1 F.1.2.1 dX7_needs_10 (by decide) (fun c10 => ?_) (fun c10 => ?_)
  · have hv : tNd b lb lo hi sp w = false := tNd_f1 (wI_0 c10)
    refine mr_iconst F 0 dX7_needs_26 (by decide +kernel) ?_
    refine tr_put F hd hM 12 (by decide) q1732 rfl (by first | rfl | exact nZ_bI _) (by first | rfl | exact fZ_bI _) (tw_s12 _ _ _) dX7_needs_27 (fun H locs hM => ?_)
    refine lv_aload_n F.1.1 F.1.2.1 dX7_needs_30 rfl (lv_at hl 1 rfl) ?_
    refine lv_dup F.1.1 F.1.2.1 dX7_needs_31 rfl ?_
    refine tr_get F hd hM 11 (by decide) q1731 (congrArg (fun z => some (Value.int z)) ((va_up_ne _ _ (by decide)).trans hsp)) dX7_needs_32 ?_
    refine lv_aload_n F.1.1 F.1.2.1 dX7_needs_35 rfl (lv_at hl 1 rfl) ?_
    refine tr_get F hd hM 12 (by decide) q1732 (congrArg (fun z => some (Value.int z)) (va_up_self _ _ _)) dX7_needs_36 ?_
    refine mr_ifeqN F (tgt := 46) dX7_needs_39 (by decide) (by omega) (fun c39 => ?_) (fun c39 => ?_)
    · refine mr_iconst F 0 dX7_needs_46 (by decide +kernel) ?_
      refine mr_iaddN F dX7_needs_47 ?_
      refine tr_put F hd hM 11 (by decide) q1731 rfl rfl rfl (tw_s11 _ _ _) dX7_needs_48 (fun H locs hM => ?_)
      refine lv_iload_n F.1.1 F.1.2.1 dX7_needs_51 rfl (lv_at hl 0 rfl) ?_
      exact mr_iret F hQ hM ⟨rfl, by rw [hv]; rfl⟩ (Nat.le_of_ble_eq_true rfl) (Nat.le_of_ble_eq_true rfl) dX7_needs_52
    · exact absurd rfl c39
  · refine lv_iload_n F.1.1 F.1.2.1 dX7_needs_13 rfl (lv_at hl 0 rfl) ?_
    refine lv_iload_n F.1.1 F.1.2.1 dX7_needs_14 rfl (lv_at hl 2 rfl) ?_
    refine lv_iload_n F.1.1 F.1.2.1 dX7_needs_15 rfl (lv_at hl 3 rfl) ?_
    refine mc_Sa (As := [_, _, _]) F hM (ct_in l ) (va_cwS 3 F.1.2.2.2.2 (lw_S q1783 q1784 q88 q1785) rfl rfl rfl (by decide +kernel) (mRm_ok (by decide) (by decide))) rfl rfl hl.1 rfl (Nat.le_of_ble_eq_true rfl) dX7_needs_16 ⟨Nat.le_of_ble_eq_true rfl, Nat.le_of_ble_eq_true rfl⟩ (fun H locs hM => ?_)
    refine mr_ifeqB F (tgt := 26) dX7_needs_19 (by decide) (fun c19 => ?_) (fun c19 => ?_)
    · have hv : tNd b lb lo hi sp w = false := tNd_f2 c19
      refine mr_iconst F 0 dX7_needs_26 (by decide +kernel) ?_
      refine tr_put F hd hM 12 (by decide) q1732 rfl (by first | rfl | exact nZ_bI _) (by first | rfl | exact fZ_bI _) (tw_s12 _ _ _) dX7_needs_27 (fun H locs hM => ?_)
      refine lv_aload_n F.1.1 F.1.2.1 dX7_needs_30 rfl (lv_at hl 1 rfl) ?_
      refine lv_dup F.1.1 F.1.2.1 dX7_needs_31 rfl ?_
      refine tr_get F hd hM 11 (by decide) q1731 (congrArg (fun z => some (Value.int z)) ((va_up_ne _ _ (by decide)).trans hsp)) dX7_needs_32 ?_
      refine lv_aload_n F.1.1 F.1.2.1 dX7_needs_35 rfl (lv_at hl 1 rfl) ?_
      refine tr_get F hd hM 12 (by decide) q1732 (congrArg (fun z => some (Value.int z)) (va_up_self _ _ _)) dX7_needs_36 ?_
      refine mr_ifeqN F (tgt := 46) dX7_needs_39 (by decide) (by omega) (fun c39 => ?_) (fun c39 => ?_)
      · refine mr_iconst F 0 dX7_needs_46 (by decide +kernel) ?_
        refine mr_iaddN F dX7_needs_47 ?_
        refine tr_put F hd hM 11 (by decide) q1731 rfl rfl rfl (tw_s11 _ _ _) dX7_needs_48 (fun H locs hM => ?_)
        refine lv_iload_n F.1.1 F.1.2.1 dX7_needs_51 rfl (lv_at hl 0 rfl) ?_
        exact mr_iret F hQ hM ⟨rfl, by rw [hv]; rfl⟩ (Nat.le_of_ble_eq_true rfl) (Nat.le_of_ble_eq_true rfl) dX7_needs_52
      · exact absurd rfl c39
    · have hv : tNd b lb lo hi sp w = true := tNd_t (wI_1 c10) c19
      refine mr_iconst F 1 dX7_needs_22 (by decide +kernel) ?_
      refine lv_goto (tgt := 27) F.1.1 F.1.2.1 dX7_needs_23 (by decide) ?_
      refine tr_put F hd hM 12 (by decide) q1732 rfl (by first | rfl | exact nZ_bI _) (by first | rfl | exact fZ_bI _) (tw_s12 _ _ _) dX7_needs_27 (fun H locs hM => ?_)
      refine lv_aload_n F.1.1 F.1.2.1 dX7_needs_30 rfl (lv_at hl 1 rfl) ?_
      refine lv_dup F.1.1 F.1.2.1 dX7_needs_31 rfl ?_
      refine tr_get F hd hM 11 (by decide) q1731 (congrArg (fun z => some (Value.int z)) ((va_up_ne _ _ (by decide)).trans hsp)) dX7_needs_32 ?_
      refine lv_aload_n F.1.1 F.1.2.1 dX7_needs_35 rfl (lv_at hl 1 rfl) ?_
      refine tr_get F hd hM 12 (by decide) q1732 (congrArg (fun z => some (Value.int z)) (va_up_self _ _ _)) dX7_needs_36 ?_
      refine mr_ifeqN F (tgt := 46) dX7_needs_39 (by decide) (by omega) (fun c39 => ?_) (fun c39 => ?_)
      · exact absurd c39 (by decide)
      · refine mr_iconst F 1 dX7_needs_42 (by decide +kernel) ?_
        refine lv_goto (tgt := 47) F.1.1 F.1.2.1 dX7_needs_43 (by decide) ?_
        refine mr_iaddN F dX7_needs_47 ?_
        refine tr_put F hd hM 11 (by decide) q1731 rfl rfl rfl (tw_s11 _ _ _) dX7_needs_48 (fun H locs hM => ?_)
        refine lv_iload_n F.1.1 F.1.2.1 dX7_needs_51 rfl (lv_at hl 0 rfl) ?_
        exact mr_iret F hQ hM ⟨rfl, by rw [hv]; rfl⟩ (Nat.le_of_ble_eq_true rfl) (Nat.le_of_ble_eq_true rfl) dX7_needs_52
set_option maxHeartbeats 4000000 in
theorem ct_number (l : Launch) {G : mG} {ad : Nat → Nat} {g r : Nat → Int32} {f : Nat → UInt32} {h : tH} {b : Nat → Int32} {M0 : mM} {lb sp mo : Nat} {w : Bool} (hd : tAd ad) (hsp : g 11 = nI sp) (hlb : g 9 = nI lb) (hl60 : lb ≤ 60) (hspl : sp ≤ lb) (hw : g 12 = wI w) (hmo : mo ≤ 999) : mMet l yX7_number (ws_ yX7_number cX7_number 5 (some .int)) (mRm 3 0 0) [.ref (ad 0), .int (nI mo)] G (pPre (tM G ad g r f h b M0)) (pPost (tM G ad (va_up (va_up g 12 (wI (tNd b lb (nI 48) (nI 57) sp w))) 11 (nI (tNum b lb mo sp w).1)) r f h b M0) (some (.int (tNum b lb mo sp w).2))) := by
  refine mMet.of (by decide +kernel) (Nat.le_of_ble_eq_true rfl) fun p e s m args below meth c A Q M hM0 F hnm hQ hM ls hl => ?_
  have hM0 : M = tM G ad g r f h b M0 := hM0
  subst hM0
  have hl : lv_has ls 5 [(0, .ref (ad 0)), (1, .int (nI mo))] := hl
  have hs1 := tAdv_le (b := b) (lo := nI 48) (hi := nI 57) (w := w) hspl (by decide)
  have hlb2 : ∀ (z : Int32), (va_up (va_up g 12 (wI (tNd b lb (nI 48) (nI 57) sp w))) 11 z) 9 = nI lb := fun z => ((va_up_ne _ _ (by decide)).trans (va_up_ne _ _ (by decide))).trans hlb
  refine lv_aload_n F.1.1 F.1.2.1 dX7_number_0 rfl (lv_at hl 0 rfl) ?_
  refine mr_bipush F 48 dX7_number_1 (by decide +kernel) ?_
  refine mr_bipush F 57 dX7_number_3 (by decide +kernel) ?_
  refine mc_Va (As := [_, _]) F hM (ct_needs l hd hsp hlb hl60 hspl hw) (cwV 2 F.1.2.2.2.2 (lw_V q2113 q2115 qs66 q88 q2116) rfl rfl rfl (by decide +kernel) (mRm_ok (by decide) (by decide))) (tM_0 hd) rfl rfl rfl rfl hl.1 rfl (Nat.le_of_ble_eq_true rfl) dX7_number_5 ⟨Nat.le_of_ble_eq_true rfl, Nat.le_of_ble_eq_true rfl⟩ (fun H locs hM => ?_)
  refine mr_bipush F 48 dX7_number_8 (by decide +kernel) ?_
  refine lv_isub F.1.1 F.1.2.1 dX7_number_10 ?_
  refine lv_istore_n (lv' := [(2, _), (0, _), (1, _)]) F.1.1 F.1.2.1 dX7_number_11 rfl hl (by decide) rfl (fun ls hl => ?_)
  refine lv_aload_n F.1.1 F.1.2.1 dX7_number_12 rfl (lv_at hl 1 rfl) ?_
  refine tr_get F hd hM 12 (by decide) q1732 (congrArg (fun z => some (Value.int z)) ((va_up_ne _ _ (by decide)).trans (va_up_self _ _ _))) dX7_number_13 ?_
  refine lv_if_eq (tgt := 27) F.1.1 F.1.2.1 dX7_number_16 (by decide) (fun c16 => ?_) (fun c16 => ?_)
  · have hv : tNum b lb mo sp w = (tAdv (tNd b lb (nI 48) (nI 57) sp w) sp, tSg b lb sp - nI 48) := if_neg (fun q => by rw [wI_0 c16] at q; exact absurd q.1 (by decide))
    refine mr_iconst F 0 dX7_number_27 (by decide +kernel) ?_
    refine lv_istore_n (lv' := [(3, _), (2, _), (0, _), (1, _)]) F.1.1 F.1.2.1 dX7_number_28 rfl hl (by decide) rfl (fun ls hl => ?_)
    refine lv_iload_n F.1.1 F.1.2.1 dX7_number_29 rfl (lv_at hl 0 rfl) ?_
    refine mr_ifeqN F (tgt := 111) dX7_number_30 (by decide) (by omega) (fun c30 => ?_) (fun c30 => ?_)
    · refine lv_iload_n F.1.1 F.1.2.1 dX7_number_111 rfl (lv_at hl 1 rfl) ?_
      exact mr_iret F hQ hM ⟨by rw [hv], by rw [hv]⟩ (Nat.le_of_ble_eq_true rfl) (Nat.le_of_ble_eq_true rfl) dX7_number_112
    · exact absurd rfl c30
  · refine lv_iload_n F.1.1 F.1.2.1 dX7_number_19 rfl (lv_at hl 0 rfl) ?_
    refine lv_if_le (tgt := 27) F.1.1 F.1.2.1 dX7_number_20 (by decide) (fun c20 => ?_) (fun c20 => ?_)
    · have hv : tNum b lb mo sp w = (tAdv (tNd b lb (nI 48) (nI 57) sp w) sp, tSg b lb sp - nI 48) := if_neg (fun q => absurd q.2 (Int32.not_lt.mpr c20))
      refine mr_iconst F 0 dX7_number_27 (by decide +kernel) ?_
      refine lv_istore_n (lv' := [(3, _), (2, _), (0, _), (1, _)]) F.1.1 F.1.2.1 dX7_number_28 rfl hl (by decide) rfl (fun ls hl => ?_)
      refine lv_iload_n F.1.1 F.1.2.1 dX7_number_29 rfl (lv_at hl 0 rfl) ?_
      refine mr_ifeqN F (tgt := 111) dX7_number_30 (by decide) (by omega) (fun c30 => ?_) (fun c30 => ?_)
      · refine lv_iload_n F.1.1 F.1.2.1 dX7_number_111 rfl (lv_at hl 1 rfl) ?_
        exact mr_iret F hQ hM ⟨by rw [hv], by rw [hv]⟩ (Nat.le_of_ble_eq_true rfl) (Nat.le_of_ble_eq_true rfl) dX7_number_112
      · exact absurd rfl c30
    · have hv : tNum b lb mo sp w = tNl b lb mo (lb - tAdv (tNd b lb (nI 48) (nI 57) sp w) sp) (tAdv (tNd b lb (nI 48) (nI 57) sp w) sp) (tSg b lb sp - nI 48) := if_pos ⟨wI_1 c16, Int32.not_le.mp c20⟩
      refine mr_iconst F 1 dX7_number_23 (by decide +kernel) ?_
      refine lv_goto (tgt := 28) F.1.1 F.1.2.1 dX7_number_24 (by decide) ?_
      refine lv_istore_n (lv' := [(3, _), (2, _), (0, _), (1, _)]) F.1.1 F.1.2.1 dX7_number_28 rfl hl (by decide) rfl (fun ls hl => ?_)
      have lp : ∀ n s2 : Nat, s2 + n = lb → ∀ v : Int32, tNum b lb mo sp w = tNl b lb mo n s2 v → ∀ (H : Heap) (locs : List Loc), mWd G A s.heap (tM G ad (va_up (va_up g 12 (wI (tNd b lb (nI 48) (nI 57) sp w))) 11 (nI s2)) r f h b M0) H locs → ∀ ls : Array Slot, lv_has ls 5 [(3, .int (nI 1)), (2, .int v), (0, .ref (ad 0)), (1, .int (nI mo))] → W p l e (mRm 3 0 0) s m args below meth c H locs 0 0 Q (F0 m 29 ls []) := by
        intro n
        induction n with
        | zero =>
          intro s2 hs2 v hv H locs hM ls hl
          have hz : tSg b lb s2 = nI 0 := if_neg (by omega)
          refine lv_iload_n F.1.1 F.1.2.1 dX7_number_29 rfl (lv_at hl 0 rfl) ?_
          refine mr_ifeqN F (tgt := 111) dX7_number_30 (by decide) (by omega) (fun c30 => ?_) (fun c30 => ?_)
          · exact absurd c30 (by decide)
          · refine lv_aload_n F.1.1 F.1.2.1 dX7_number_33 rfl (lv_at hl 2 rfl) ?_
            refine mc_Va (As := []) F hM (ct_sign l hd (va_up_self _ _ _) (hlb2 _) hl60 (by omega)) (cwV 0 F.1.2.2.2.2 (lw_V q2105 q2107 qs64 q88 q2108) rfl rfl rfl (by decide +kernel) (mRm_ok (by decide) (by decide))) (tM_0 hd) rfl rfl rfl rfl hl.1 rfl (Nat.le_of_ble_eq_true rfl) dX7_number_34 ⟨Nat.le_of_ble_eq_true rfl, Nat.le_of_ble_eq_true rfl⟩ (fun H locs hM => ?_)
            refine mr_bipush F 48 dX7_number_37 (by decide +kernel) ?_
            refine mr_bipush F 57 dX7_number_39 (by decide +kernel) ?_
            refine mc_Sa (As := [_, _, _]) F hM (ct_in l ) (va_cwS 3 F.1.2.2.2.2 (lw_S q1783 q1784 q88 q1785) rfl rfl rfl (by decide +kernel) (mRm_ok (by decide) (by decide))) rfl rfl hl.1 rfl (Nat.le_of_ble_eq_true rfl) dX7_number_41 ⟨Nat.le_of_ble_eq_true rfl, Nat.le_of_ble_eq_true rfl⟩ (fun H locs hM => ?_)
            refine mr_ifeqB F (tgt := 62) dX7_number_44 (by decide) (fun c44 => ?_) (fun c44 => ?_)
            · refine lv_iload_n F.1.1 F.1.2.1 dX7_number_62 rfl (lv_at hl 3 rfl) ?_
              refine mr_iconst F 1 dX7_number_63 (by decide +kernel) ?_
              refine mr_iaddN F dX7_number_64 ?_
              refine lv_istore (lv' := [(4, _), (3, _), (2, _), (0, _), (1, _)]) F.1.1 F.1.2.1 dX7_number_65 hl (by decide) rfl (fun ls hl => ?_)
              refine lv_iload F.1.1 F.1.2.1 dX7_number_67 (lv_at hl 0 rfl) ?_
              refine lv_iload_n F.1.1 F.1.2.1 dX7_number_69 rfl (lv_at hl 4 rfl) ?_
              refine mr_icmp_gtN F (tgt := 77) dX7_number_70 (by decide) (by omega) (by omega) (fun c70 => ?_) (fun c70 => ?_)
              · refine mr_iconst F 0 dX7_number_77 (by decide +kernel) ?_
                refine lv_istore_n (lv' := [(3, _), (4, _), (2, _), (0, _), (1, _)]) F.1.1 F.1.2.1 dX7_number_78 rfl hl (by decide) rfl (fun ls hl => ?_)
                refine lv_iload_n F.1.1 F.1.2.1 dX7_number_79 rfl (lv_at hl 0 rfl) ?_
                refine mr_ifeqN F (tgt := 88) dX7_number_80 (by decide) (by omega) (fun c80 => ?_) (fun c80 => ?_)
                · refine lv_iload_n F.1.1 F.1.2.1 dX7_number_88 rfl (lv_at hl 2 rfl) ?_
                  refine lv_istore_n (lv' := [(2, _), (3, _), (4, _), (0, _), (1, _)]) F.1.1 F.1.2.1 dX7_number_89 rfl hl (by decide) rfl (fun ls hl => ?_)
                  refine lv_aload_n F.1.1 F.1.2.1 dX7_number_90 rfl (lv_at hl 3 rfl) ?_
                  refine lv_dup F.1.1 F.1.2.1 dX7_number_91 rfl ?_
                  refine tr_get F hd hM 11 (by decide) q1731 (congrArg (fun z => some (Value.int z)) (va_up_self _ _ _)) dX7_number_92 ?_
                  refine lv_iload_n F.1.1 F.1.2.1 dX7_number_95 rfl (lv_at hl 1 rfl) ?_
                  refine mr_ifeqN F (tgt := 103) dX7_number_96 (by decide) (by omega) (fun c96 => ?_) (fun c96 => ?_)
                  · refine mr_iconst F 0 dX7_number_103 (by decide +kernel) ?_
                    refine mr_iaddN F dX7_number_104 ?_
                    refine tr_put F hd hM 11 (by decide) q1731 rfl rfl rfl (tw_s11 _ _ _) dX7_number_105 (fun H locs hM => ?_)
                    refine lv_goto (tgt := 29) F.1.1 F.1.2.1 dX7_number_108 (by decide) ?_
                    refine lv_iload_n F.1.1 F.1.2.1 dX7_number_29 rfl (lv_at hl 1 rfl) ?_
                    refine mr_ifeqN F (tgt := 111) dX7_number_30 (by decide) (by omega) (fun c30 => ?_) (fun c30 => ?_)
                    · refine lv_iload_n F.1.1 F.1.2.1 dX7_number_111 rfl (lv_at hl 0 rfl) ?_
                      exact mr_iret F hQ hM ⟨by rw [hv]; rfl, by rw [hv, bx_uu]; rfl⟩ (Nat.le_of_ble_eq_true rfl) (Nat.le_of_ble_eq_true rfl) dX7_number_112
                    · exact absurd rfl c30
                  · exact absurd rfl c96
                · exact absurd rfl c80
              · exact absurd (show mo < mo + 1 by omega) c70
            · exact absurd c44.1 (by rw [hz]; decide)
        | succ n ih =>
          intro s2 hs2 v hv H locs hM ls hl
          refine lv_iload_n F.1.1 F.1.2.1 dX7_number_29 rfl (lv_at hl 0 rfl) ?_
          refine mr_ifeqN F (tgt := 111) dX7_number_30 (by decide) (by omega) (fun c30 => ?_) (fun c30 => ?_)
          · exact absurd c30 (by decide)
          · refine lv_aload_n F.1.1 F.1.2.1 dX7_number_33 rfl (lv_at hl 2 rfl) ?_
            refine mc_Va (As := []) F hM (ct_sign l hd (va_up_self _ _ _) (hlb2 _) hl60 (by omega)) (cwV 0 F.1.2.2.2.2 (lw_V q2105 q2107 qs64 q88 q2108) rfl rfl rfl (by decide +kernel) (mRm_ok (by decide) (by decide))) (tM_0 hd) rfl rfl rfl rfl hl.1 rfl (Nat.le_of_ble_eq_true rfl) dX7_number_34 ⟨Nat.le_of_ble_eq_true rfl, Nat.le_of_ble_eq_true rfl⟩ (fun H locs hM => ?_)
            refine mr_bipush F 48 dX7_number_37 (by decide +kernel) ?_
            refine mr_bipush F 57 dX7_number_39 (by decide +kernel) ?_
            refine mc_Sa (As := [_, _, _]) F hM (ct_in l ) (va_cwS 3 F.1.2.2.2.2 (lw_S q1783 q1784 q88 q1785) rfl rfl rfl (by decide +kernel) (mRm_ok (by decide) (by decide))) rfl rfl hl.1 rfl (Nat.le_of_ble_eq_true rfl) dX7_number_41 ⟨Nat.le_of_ble_eq_true rfl, Nat.le_of_ble_eq_true rfl⟩ (fun H locs hM => ?_)
            refine mr_ifeqB F (tgt := 62) dX7_number_44 (by decide) (fun c44 => ?_) (fun c44 => ?_)
            · have hv : tNum b lb mo sp w = (s2, v) := by rw [hv]; exact if_neg (fun q => c44 q.1)
              refine lv_iload_n F.1.1 F.1.2.1 dX7_number_62 rfl (lv_at hl 3 rfl) ?_
              refine mr_iconst F 1 dX7_number_63 (by decide +kernel) ?_
              refine mr_iaddN F dX7_number_64 ?_
              refine lv_istore (lv' := [(4, _), (3, _), (2, _), (0, _), (1, _)]) F.1.1 F.1.2.1 dX7_number_65 hl (by decide) rfl (fun ls hl => ?_)
              refine lv_iload F.1.1 F.1.2.1 dX7_number_67 (lv_at hl 0 rfl) ?_
              refine lv_iload_n F.1.1 F.1.2.1 dX7_number_69 rfl (lv_at hl 4 rfl) ?_
              refine mr_icmp_gtN F (tgt := 77) dX7_number_70 (by decide) (by omega) (by omega) (fun c70 => ?_) (fun c70 => ?_)
              · refine mr_iconst F 0 dX7_number_77 (by decide +kernel) ?_
                refine lv_istore_n (lv' := [(3, _), (4, _), (2, _), (0, _), (1, _)]) F.1.1 F.1.2.1 dX7_number_78 rfl hl (by decide) rfl (fun ls hl => ?_)
                refine lv_iload_n F.1.1 F.1.2.1 dX7_number_79 rfl (lv_at hl 0 rfl) ?_
                refine mr_ifeqN F (tgt := 88) dX7_number_80 (by decide) (by omega) (fun c80 => ?_) (fun c80 => ?_)
                · refine lv_iload_n F.1.1 F.1.2.1 dX7_number_88 rfl (lv_at hl 2 rfl) ?_
                  refine lv_istore_n (lv' := [(2, _), (3, _), (4, _), (0, _), (1, _)]) F.1.1 F.1.2.1 dX7_number_89 rfl hl (by decide) rfl (fun ls hl => ?_)
                  refine lv_aload_n F.1.1 F.1.2.1 dX7_number_90 rfl (lv_at hl 3 rfl) ?_
                  refine lv_dup F.1.1 F.1.2.1 dX7_number_91 rfl ?_
                  refine tr_get F hd hM 11 (by decide) q1731 (congrArg (fun z => some (Value.int z)) (va_up_self _ _ _)) dX7_number_92 ?_
                  refine lv_iload_n F.1.1 F.1.2.1 dX7_number_95 rfl (lv_at hl 1 rfl) ?_
                  refine mr_ifeqN F (tgt := 103) dX7_number_96 (by decide) (by omega) (fun c96 => ?_) (fun c96 => ?_)
                  · refine mr_iconst F 0 dX7_number_103 (by decide +kernel) ?_
                    refine mr_iaddN F dX7_number_104 ?_
                    refine tr_put F hd hM 11 (by decide) q1731 rfl rfl rfl (tw_s11 _ _ _) dX7_number_105 (fun H locs hM => ?_)
                    refine lv_goto (tgt := 29) F.1.1 F.1.2.1 dX7_number_108 (by decide) ?_
                    refine lv_iload_n F.1.1 F.1.2.1 dX7_number_29 rfl (lv_at hl 1 rfl) ?_
                    refine mr_ifeqN F (tgt := 111) dX7_number_30 (by decide) (by omega) (fun c30 => ?_) (fun c30 => ?_)
                    · refine lv_iload_n F.1.1 F.1.2.1 dX7_number_111 rfl (lv_at hl 0 rfl) ?_
                      exact mr_iret F hQ hM ⟨by rw [hv], by rw [hv, bx_uu]; rfl⟩ (Nat.le_of_ble_eq_true rfl) (Nat.le_of_ble_eq_true rfl) dX7_number_112
                    · exact absurd rfl c30
                  · exact absurd rfl c96
                · exact absurd rfl c80
              · exact absurd (show mo < mo + 1 by omega) c70
            · refine mr_bipush F 10 dX7_number_47 (by decide +kernel) ?_
              refine lv_iload_n F.1.1 F.1.2.1 dX7_number_49 rfl (lv_at hl 1 rfl) ?_
              refine lv_imul F.1.1 F.1.2.1 dX7_number_50 ?_
              refine lv_aload_n F.1.1 F.1.2.1 dX7_number_51 rfl (lv_at hl 2 rfl) ?_
              refine mc_Va (As := []) F hM (ct_sign l hd (va_up_self _ _ _) (hlb2 _) hl60 (by omega)) (cwV 0 F.1.2.2.2.2 (lw_V q2105 q2107 qs64 q88 q2108) rfl rfl rfl (by decide +kernel) (mRm_ok (by decide) (by decide))) (tM_0 hd) rfl rfl rfl rfl hl.1 rfl (Nat.le_of_ble_eq_true rfl) dX7_number_52 ⟨Nat.le_of_ble_eq_true rfl, Nat.le_of_ble_eq_true rfl⟩ (fun H locs hM => ?_)
              refine lv_iadd F.1.1 F.1.2.1 dX7_number_55 ?_
              refine mr_bipush F 48 dX7_number_56 (by decide +kernel) ?_
              refine lv_isub F.1.1 F.1.2.1 dX7_number_58 ?_
              refine lv_goto (tgt := 65) F.1.1 F.1.2.1 dX7_number_59 (by decide) ?_
              refine lv_istore (lv' := [(4, _), (3, _), (2, _), (0, _), (1, _)]) F.1.1 F.1.2.1 dX7_number_65 hl (by decide) rfl (fun ls hl => ?_)
              refine lv_iload F.1.1 F.1.2.1 dX7_number_67 (lv_at hl 0 rfl) ?_
              refine lv_iload_n F.1.1 F.1.2.1 dX7_number_69 rfl (lv_at hl 4 rfl) ?_
              refine lv_icmp_gt (tgt := 77) F.1.1 F.1.2.1 dX7_number_70 (by decide) (fun c70 => ?_) (fun c70 => ?_)
              · have hv : tNum b lb mo sp w = (s2, v) := by rw [hv]; exact if_neg (fun q => q.2 c70)
                refine mr_iconst F 0 dX7_number_77 (by decide +kernel) ?_
                refine lv_istore_n (lv' := [(3, _), (4, _), (2, _), (0, _), (1, _)]) F.1.1 F.1.2.1 dX7_number_78 rfl hl (by decide) rfl (fun ls hl => ?_)
                refine lv_iload_n F.1.1 F.1.2.1 dX7_number_79 rfl (lv_at hl 0 rfl) ?_
                refine mr_ifeqN F (tgt := 88) dX7_number_80 (by decide) (by omega) (fun c80 => ?_) (fun c80 => ?_)
                · refine lv_iload_n F.1.1 F.1.2.1 dX7_number_88 rfl (lv_at hl 2 rfl) ?_
                  refine lv_istore_n (lv' := [(2, _), (3, _), (4, _), (0, _), (1, _)]) F.1.1 F.1.2.1 dX7_number_89 rfl hl (by decide) rfl (fun ls hl => ?_)
                  refine lv_aload_n F.1.1 F.1.2.1 dX7_number_90 rfl (lv_at hl 3 rfl) ?_
                  refine lv_dup F.1.1 F.1.2.1 dX7_number_91 rfl ?_
                  refine tr_get F hd hM 11 (by decide) q1731 (congrArg (fun z => some (Value.int z)) (va_up_self _ _ _)) dX7_number_92 ?_
                  refine lv_iload_n F.1.1 F.1.2.1 dX7_number_95 rfl (lv_at hl 1 rfl) ?_
                  refine mr_ifeqN F (tgt := 103) dX7_number_96 (by decide) (by omega) (fun c96 => ?_) (fun c96 => ?_)
                  · refine mr_iconst F 0 dX7_number_103 (by decide +kernel) ?_
                    refine mr_iaddN F dX7_number_104 ?_
                    refine tr_put F hd hM 11 (by decide) q1731 rfl rfl rfl (tw_s11 _ _ _) dX7_number_105 (fun H locs hM => ?_)
                    refine lv_goto (tgt := 29) F.1.1 F.1.2.1 dX7_number_108 (by decide) ?_
                    refine lv_iload_n F.1.1 F.1.2.1 dX7_number_29 rfl (lv_at hl 1 rfl) ?_
                    refine mr_ifeqN F (tgt := 111) dX7_number_30 (by decide) (by omega) (fun c30 => ?_) (fun c30 => ?_)
                    · refine lv_iload_n F.1.1 F.1.2.1 dX7_number_111 rfl (lv_at hl 0 rfl) ?_
                      exact mr_iret F hQ hM ⟨by rw [hv], by rw [hv, bx_uu]; rfl⟩ (Nat.le_of_ble_eq_true rfl) (Nat.le_of_ble_eq_true rfl) dX7_number_112
                    · exact absurd rfl c30
                  · exact absurd rfl c96
                · exact absurd rfl c80
              · have hv : tNum b lb mo sp w = tNl b lb mo n (s2 + 1) (nI 10 * v + tSg b lb s2 - nI 48) := by rw [hv]; exact if_pos ⟨c44, c70⟩
                refine mr_iconst F 1 dX7_number_73 (by decide +kernel) ?_
                refine lv_goto (tgt := 78) F.1.1 F.1.2.1 dX7_number_74 (by decide) ?_
                refine lv_istore_n (lv' := [(3, _), (4, _), (2, _), (0, _), (1, _)]) F.1.1 F.1.2.1 dX7_number_78 rfl hl (by decide) rfl (fun ls hl => ?_)
                refine lv_iload_n F.1.1 F.1.2.1 dX7_number_79 rfl (lv_at hl 0 rfl) ?_
                refine mr_ifeqN F (tgt := 88) dX7_number_80 (by decide) (by omega) (fun c80 => ?_) (fun c80 => ?_)
                · exact absurd c80 (by decide)
                · refine lv_iload F.1.1 F.1.2.1 dX7_number_83 (lv_at hl 1 rfl) ?_
                  refine lv_goto (tgt := 89) F.1.1 F.1.2.1 dX7_number_85 (by decide) ?_
                  refine lv_istore_n (lv' := [(2, _), (3, _), (4, _), (0, _), (1, _)]) F.1.1 F.1.2.1 dX7_number_89 rfl hl (by decide) rfl (fun ls hl => ?_)
                  refine lv_aload_n F.1.1 F.1.2.1 dX7_number_90 rfl (lv_at hl 3 rfl) ?_
                  refine lv_dup F.1.1 F.1.2.1 dX7_number_91 rfl ?_
                  refine tr_get F hd hM 11 (by decide) q1731 (congrArg (fun z => some (Value.int z)) (va_up_self _ _ _)) dX7_number_92 ?_
                  refine lv_iload_n F.1.1 F.1.2.1 dX7_number_95 rfl (lv_at hl 1 rfl) ?_
                  refine mr_ifeqN F (tgt := 103) dX7_number_96 (by decide) (by omega) (fun c96 => ?_) (fun c96 => ?_)
                  · exact absurd c96 (by decide)
                  · refine mr_iconst F 1 dX7_number_99 (by decide +kernel) ?_
                    refine lv_goto (tgt := 104) F.1.1 F.1.2.1 dX7_number_100 (by decide) ?_
                    refine mr_iaddN F dX7_number_104 ?_
                    refine tr_put F hd hM 11 (by decide) q1731 rfl rfl rfl (tw_s11 _ _ _) dX7_number_105 (fun H locs hM => ?_)
                    refine lv_goto (tgt := 29) F.1.1 F.1.2.1 dX7_number_108 (by decide) ?_
                    rw [bx_uu] at hM
                    exact ih (s2 + 1) (by omega) _ hv _ _ hM _ (lv_sub hl [1, 0, 3, 4] rfl)
      exact lp _ _ (by omega) _ hv _ _ hM _ hl
