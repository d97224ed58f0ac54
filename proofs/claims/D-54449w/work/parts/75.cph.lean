/-! THE SYSTEM: polishing -/
set_option maxHeartbeats 4000000 in
theorem cs_X8_polish (l : Launch) {G : mG} {ad : Nat → Nat} {n : Nat} {r : Nat → Int32} {f : Nat → UInt32} {dv : Nat → Int32} {M0 : mM} {k : Nat} (hd : sAd n ad) (hn : n ≤ 6) (hfs : ∀ j, j < 720 → f j ∈ fsL) (hsc : ∀ j, j < 18 → r (96 + j) = nI 0 ∨ r (96 + j) = nI 1) (h3 : k < n) : mMet l yX8_polish (ws_ yX8_polish cX8_polish 5 (some .int)) (mRm 2 0 0) [.ref (ad (60 + k))] G (pPre (sM G ad n r f dv M0)) (pPost (sM G ad n (nPolR r k 3) (nPolF r f k 3) dv M0) (some (.int (nPolN r k 3)))) := by
  refine mMet.of (by decide +kernel) (Nat.le_of_ble_eq_true rfl) fun p e s m args below meth c A Q M hM0 F hnm hQ hM ls hl => ?_
  have hM0 : M = sM G ad n r f dv M0 := hM0
  subst hM0
  have hl : lv_has ls 5 [(0, .ref (ad (60 + k)))] := hl
  refine mr_iconst F 0 dX8_polish_0 (by decide +kernel) ?_
  refine lv_istore_n (lv' := [(1, _), (0, _)]) F.1.1 F.1.2.1 dX8_polish_1 rfl hl (by decide) rfl (fun ls hl => ?_)
  refine mr_iconst F 0 dX8_polish_2 (by decide +kernel) ?_
  refine lv_istore_n (lv' := [(2, _), (1, _), (0, _)]) F.1.1 F.1.2.1 dX8_polish_3 rfl hl (by decide) rfl (fun ls hl => ?_)
  have lo : ∀ j i : Nat, i + j = 3 → ∀ (H : Heap) (locs : List Loc), mWd G A s.heap (sM G ad n (nPolR r k i) (nPolF r f k i) dv M0) H locs → ∀ ls : Array Slot, lv_has ls 5 [(2, .int (nI i)), (1, .int (nPolN r k i)), (0, .ref (ad (60 + k)))] → W p l e (mRm 2 0 0) s m args below meth c H locs 0 0 Q (F0 m 4 ls []) := by
    intro j
    induction j with
    | zero =>
      intro i hi H locs hM ls hl
      obtain rfl : i = 3 := by omega
      refine lv_iload_n F.1.1 F.1.2.1 dX8_polish_4 rfl (lv_at hl 0 rfl) ?_
      refine mr_iconst F 3 dX8_polish_5 (by decide +kernel) ?_
      refine mr_icmp_geN F (tgt := 59) dX8_polish_6 (by decide) (by omega) (by omega) (fun c6 => ?_) (fun c6 => ?_)
      · refine lv_iload_n F.1.1 F.1.2.1 dX8_polish_59 rfl (lv_at hl 1 rfl) ?_
        exact mr_iret F hQ hM ⟨rfl, rfl⟩ (Nat.le_of_ble_eq_true rfl) (Nat.le_of_ble_eq_true rfl) dX8_polish_60
      · exact absurd c6 (by omega)
    | succ j ih =>
      intro i hi H locs hM ls hl
      have hff := nPolF_fs (r := r) (p0 := k) hfs i
      have e96 : 96 + (3 * k + i) = 96 + 3 * k + i := by omega
      have eS : nPolR r k i (96 + (3 * k + i)) = r (96 + 3 * k + i) := by rw [e96]; exact nPolR_at r k i i (Nat.le_refl _)
      refine lv_iload_n F.1.1 F.1.2.1 dX8_polish_4 rfl (lv_at hl 0 rfl) ?_
      refine mr_iconst F 3 dX8_polish_5 (by decide +kernel) ?_
      refine mr_icmp_geN F (tgt := 59) dX8_polish_6 (by decide) (by omega) (by omega) (fun c6 => ?_) (fun c6 => ?_)
      · exact absurd c6 (by omega)
      · refine lv_aload_n F.1.1 F.1.2.1 dX8_polish_9 rfl (lv_at hl 2 rfl) ?_
        refine cg6 F hM (sM_P hd hn (by omega)) 1 (by decide) q1128 (fun x h => h) rfl dX8_polish_10 ?_
        refine lv_iload_n F.1.1 F.1.2.1 dX8_polish_13 rfl (lv_at hl 0 rfl) ?_
        refine sr_ldU F hd hn hM (by omega) (by omega) dX8_polish_14 ?_
        refine lv_astore_n (lv' := [(3, _), (2, _), (1, _), (0, _)]) F.1.1 F.1.2.1 dX8_polish_15 rfl hl (by decide) rfl (fun ls hl => ?_)
        refine lv_aload_n F.1.1 F.1.2.1 dX8_polish_16 rfl (lv_at hl 0 rfl) ?_
        refine cg7 F hM (sM_S hd hn (by omega)) 3 (by decide) q1112 (fun x h => h) (congrArg (fun z => some (Value.int z)) eS) dX8_polish_17 ?_
        refine lv_if_eq (tgt := 53) F.1.1 F.1.2.1 dX8_polish_20 (by decide) (fun c20 => ?_) (fun c20 => ?_)
        · have hs : ¬ r (96 + 3 * k + i) = nI 1 := by rw [c20]; decide
          refine lv_iinc (lv' := [(2, _), (3, _), (1, _), (0, _)]) F.1.1 F.1.2.1 dX8_polish_53 hl (k := 1) rfl (nK_add _ 1) (by decide) rfl (fun ls hl => ?_)
          refine lv_goto (tgt := 4) F.1.1 F.1.2.1 dX8_polish_56 (by decide) ?_
          have eR : nPolR r k (i + 1) = nPolR r k i := va_up_id ((nPolR_at r k i i (Nat.le_refl _)).trans c20)
          have eF : nPolF r f k (i + 1) = nPolF r f k i := if_neg hs
          have eN : nPolN r k (i + 1) = nPolN r k i := by show nPolN r k i + r (96 + 3 * k + i) = _; rw [c20]; exact Int32.add_zero _
          exact ih (i + 1) (by omega) _ _ (by rw [eR, eF]; exact hM) _ (lv_sub hl [0, 2, 3] (by rw [eN]; rfl))
        · have hs : r (96 + 3 * k + i) = nI 1 := by rw [← e96]; exact (hsc (3 * k + i) (by omega)).resolve_left (by rw [e96]; exact c20)
          refine lv_aload_n F.1.1 F.1.2.1 dX8_polish_23 rfl (lv_at hl 0 rfl) ?_
          refine mr_iconst F 0 dX8_polish_24 (by decide +kernel) ?_
          refine cp7 F hM (sM_S hd hn (by omega)) 3 (by decide) q1112 (fun x h => h) rfl (by first | rfl | exact nZ_bI _) (by first | rfl | exact fZ_bI _) (Nat.le_of_ble_eq_true rfl) dX8_polish_25 (fun H locs hM => ?_)
          rw [su_S3 hd hn (by omega) (show 96 + 3 * k + i = 96 + (3 * k + i) by omega)] at hM
          refine lv_iinc (lv' := [(1, _), (3, _), (2, _), (0, _)]) F.1.1 F.1.2.1 dX8_polish_28 hl (k := 2) rfl rfl (by decide) rfl (fun ls hl => ?_)
          refine mr_iconst F 0 dX8_polish_31 (by decide +kernel) ?_
          refine lv_istore (lv' := [(4, _), (1, _), (3, _), (2, _), (0, _)]) F.1.1 F.1.2.1 dX8_polish_32 hl (by decide) rfl (fun ls hl => ?_)
          have hM : mWd G A s.heap (sM G ad n (nPolR r k (i + 1)) (nHlv (nPolF r f k i) (40 * (3 * k + i)) 0) dv M0) H locs := by rw [nHlv_0]; exact hM
          have li : ∀ j2 q0 : Nat, q0 + j2 = 40 → ∀ (H : Heap) (locs : List Loc), mWd G A s.heap (sM G ad n (nPolR r k (i + 1)) (nHlv (nPolF r f k i) (40 * (3 * k + i)) q0) dv M0) H locs → ∀ ls : Array Slot, lv_has ls 5 [(4, .int (nI q0)), (1, .int (nPolN r k i + nI 1)), (3, .ref (ad (80 + (3 * k + i)))), (2, .int (nI i)), (0, .ref (ad (60 + k)))] → W p l e (mRm 2 0 0) s m args below meth c H locs 0 0 Q (F0 m 34 ls []) := by
            intro j2
            induction j2 with
            | zero =>
              intro q0 hq H locs hM ls hl
              obtain rfl : q0 = 40 := by omega
              refine lv_iload F.1.1 F.1.2.1 dX8_polish_34 (lv_at hl 0 rfl) ?_
              refine mr_bipush F 40 dX8_polish_36 (by decide +kernel) ?_
              refine mr_icmp_geN F (tgt := 53) dX8_polish_38 (by decide) (by omega) (by omega) (fun c38 => ?_) (fun c38 => ?_)
              · refine lv_iinc (lv' := [(2, _), (4, _), (1, _), (3, _), (0, _)]) F.1.1 F.1.2.1 dX8_polish_53 hl (k := 3) rfl (nK_add _ 1) (by decide) rfl (fun ls hl => ?_)
                refine lv_goto (tgt := 4) F.1.1 F.1.2.1 dX8_polish_56 (by decide) ?_
                have eF : nPolF r f k (i + 1) = nHlv (nPolF r f k i) (40 * (3 * k + i)) 40 := if_pos hs
                have eN : nPolN r k (i + 1) = nPolN r k i + nI 1 := by show nPolN r k i + r (96 + 3 * k + i) = _; rw [hs]
                exact ih (i + 1) (by omega) _ _ (by rw [eF]; exact hM) _ (lv_sub hl [0, 2, 4] (by rw [eN]; rfl))
              · exact absurd c38 (by omega)
            | succ j2 ih2 =>
              intro q0 hq H locs hM ls hl
              refine lv_iload F.1.1 F.1.2.1 dX8_polish_34 (lv_at hl 0 rfl) ?_
              refine mr_bipush F 40 dX8_polish_36 (by decide +kernel) ?_
              refine mr_icmp_geN F (tgt := 53) dX8_polish_38 (by decide) (by omega) (by omega) (fun c38 => ?_) (fun c38 => ?_)
              · exact absurd c38 (by omega)
              · refine lv_aload_n F.1.1 F.1.2.1 dX8_polish_41 rfl (lv_at hl 2 rfl) ?_
                refine lv_iload F.1.1 F.1.2.1 dX8_polish_42 (lv_at hl 0 rfl) ?_
                refine mc_Vv (As := [_]) F hM (cs_X9_halve l hd hn (by omega) (by omega) (nHlv_fs (hff _ (by omega)))) (cwV 1 F.1.2.2.2.2 (lw_V q998 q926 q927 q95 q928) rfl rfl rfl (by decide +kernel) (mRm_ok (by decide) (by decide))) (sM_S hd hn (by omega)) rfl rfl rfl rfl hl.1 rfl (Nat.le_of_ble_eq_true rfl) dX8_polish_44 ⟨Nat.le_of_ble_eq_true rfl, Nat.le_of_ble_eq_true rfl⟩ (fun H locs hM => ?_)
                rw [nHlv_s] at hM
                refine lv_iinc (lv' := [(4, _), (1, _), (3, _), (2, _), (0, _)]) F.1.1 F.1.2.1 dX8_polish_47 hl (k := 0) rfl (nK_add _ 1) (by decide) rfl (fun ls hl => ?_)
                refine lv_goto (tgt := 34) F.1.1 F.1.2.1 dX8_polish_50 (by decide) ?_
                exact ih2 (q0 + 1) (by omega) _ _ hM _ (lv_sub hl [0, 1, 2, 3, 4] rfl)
          exact li 40 0 rfl _ _ hM _ (lv_sub hl [0, 1, 2, 3, 4] rfl)
  exact lo 3 0 rfl _ _ hM _ hl
set_option maxHeartbeats 4000000 in
theorem cs_X2_polish_ok (l : Launch) {G : mG} {ad : Nat → Nat} {n : Nat} {r : Nat → Int32} {f : Nat → UInt32} {dv : Nat → Int32} {M0 : mM} {k : Nat} (hd : sAd n ad) (hn : n ≤ 6) (hI : mInv r f) (hk : k < n) (hv : dv k = -1) : mMet l yX2_polish (ws_ yX2_polish cX2_polish 3 (some .boolean)) (mRm 4 0 0) [.ref (ad 0), .int (nI k)] G (pPre (sM G ad n r f dv M0)) (pPost (sM G ad n (nPolR r k 3) (nPolF r f k 3) dv M0) (some (.int (nI 1)))) := by
  refine mMet.of (by decide +kernel) (Nat.le_of_ble_eq_true rfl) fun p e s m args below meth c A Q M hM0 F hnm hQ hM ls hl => ?_
  have hM0 : M = sM G ad n r f dv M0 := hM0
  subst hM0
  have hl : lv_has ls 3 [(0, .ref (ad 0)), (1, .int (nI k))] := hl
  refine lv_iload_n F.1.1 F.1.2.1 dX2_polish_0 rfl (lv_at hl 1 rfl) ?_
  refine lv_aload_n F.1.1 F.1.2.1 dX2_polish_1 rfl (lv_at hl 0 rfl) ?_
  refine cg1 F hM (sM_0 hd) 1 (by decide) q308 (fun x h => h) rfl dX2_polish_2 ?_
  refine mc_Fa (As := []) F hM (cs_J2_size l hd hn ) (va_cwF 0 F.1.2.2.2.2 (lw_F q815 q408 q410 q74 q412) rfl rfl rfl (mFw F (by decide) q411 q409 q407) (by decide +kernel) (mRm_ok (by decide) (by decide))) (sM_2 hd) rfl rfl (F.2.1.1 9 _ rfl).2 rfl rfl hl.1 rfl (Nat.le_of_ble_eq_true rfl) dX2_polish_5 ⟨Nat.le_of_ble_eq_true rfl, Nat.le_of_ble_eq_true rfl⟩ (fun H locs hM => ?_)
  refine mr_icmp_geN F (tgt := 37) dX2_polish_10 (by decide) (by omega) (by omega) (fun c10 => ?_) (fun c10 => ?_)
  · exact absurd c10 (by omega)
  · refine lv_aload_n F.1.1 F.1.2.1 dX2_polish_13 rfl (lv_at hl 0 rfl) ?_
    refine cg1 F hM (sM_0 hd) 1 (by decide) q308 (fun x h => h) rfl dX2_polish_14 ?_
    refine lv_iload_n F.1.1 F.1.2.1 dX2_polish_17 rfl (lv_at hl 1 rfl) ?_
    refine mc_Fa (As := [_]) F hM (cs_J2_get l hd hn (by omega)) (va_cwF 1 F.1.2.2.2.2 (lw_F q827 q830 q832 q74 q834) rfl rfl rfl (mFw F (by decide) q833 q831 q407) (by decide +kernel) (mRm_ok (by decide) (by decide))) (sM_2 hd) rfl rfl (F.2.1.1 9 _ rfl).2 rfl rfl hl.1 rfl (Nat.le_of_ble_eq_true rfl) dX2_polish_18 ⟨Nat.le_of_ble_eq_true rfl, Nat.le_of_ble_eq_true rfl⟩ (fun H locs hM => ?_)
    refine mr_castS F hM (sM_P hd hn (by omega)) (ci := 6) rfl q843 dX2_polish_23 ?_
    refine cg6 F hM (sM_P hd hn (by omega)) 2 (by decide) q1132 (fun x h => h) rfl dX2_polish_26 ?_
    refine lv_iconst (v := -1) F.1.1 F.1.2.1 dX2_polish_29 (by decide +kernel) ?_
    refine lv_icmp_ne (tgt := 37) F.1.1 F.1.2.1 dX2_polish_30 (by decide) (fun c30 => ?_) (fun c30 => ?_)
    · exact absurd hv c30
    · refine mr_iconst F 1 dX2_polish_33 (by decide +kernel) ?_
      refine lv_goto (tgt := 38) F.1.1 F.1.2.1 dX2_polish_34 (by decide) ?_
      refine lv_istore_n (lv' := [(2, _), (0, _), (1, _)]) F.1.1 F.1.2.1 dX2_polish_38 rfl hl (by decide) rfl (fun ls hl => ?_)
      refine lv_iload_n F.1.1 F.1.2.1 dX2_polish_39 rfl (lv_at hl 0 rfl) ?_
      refine mr_ifeqN F (tgt := 60) dX2_polish_40 (by decide) (by omega) (fun c40 => ?_) (fun c40 => ?_)
      · exact absurd c40 (by decide)
      · refine lv_aload_n F.1.1 F.1.2.1 dX2_polish_43 rfl (lv_at hl 1 rfl) ?_
        refine cg1 F hM (sM_0 hd) 1 (by decide) q308 (fun x h => h) rfl dX2_polish_44 ?_
        refine lv_iload_n F.1.1 F.1.2.1 dX2_polish_47 rfl (lv_at hl 2 rfl) ?_
        refine mc_Fa (As := [_]) F hM (cs_J2_get l hd hn (by omega)) (va_cwF 1 F.1.2.2.2.2 (lw_F q827 q830 q832 q74 q834) rfl rfl rfl (mFw F (by decide) q833 q831 q407) (by decide +kernel) (mRm_ok (by decide) (by decide))) (sM_2 hd) rfl rfl (F.2.1.1 9 _ rfl).2 rfl rfl hl.1 rfl (Nat.le_of_ble_eq_true rfl) dX2_polish_48 ⟨Nat.le_of_ble_eq_true rfl, Nat.le_of_ble_eq_true rfl⟩ (fun H locs hM => ?_)
        refine mr_castS F hM (sM_P hd hn (by omega)) (ci := 6) rfl q843 dX2_polish_53 ?_
        refine mc_Va (As := []) F hM (cs_X8_polish l hd hn hI.2.2.2.2.2.2.2.2.2.2.2.1 hI.2.2.2.2.2.2.2.2.2.1 (by omega)) (cwV 0 F.1.2.2.2.2 (lw_V q994 q995 q996 q94 q997) rfl rfl rfl (by decide +kernel) (mRm_ok (by decide) (by decide))) (sM_P hd hn (by omega)) rfl rfl rfl rfl hl.1 rfl (Nat.le_of_ble_eq_true rfl) dX2_polish_56 ⟨Nat.le_of_ble_eq_true rfl, Nat.le_of_ble_eq_true rfl⟩ (fun H locs hM => ?_)
        refine lv_pop F.1.1 F.1.2.1 dX2_polish_59 rfl ?_
        refine lv_iload_n F.1.1 F.1.2.1 dX2_polish_60 rfl (lv_at hl 0 rfl) ?_
        exact mr_zret F hQ (by first | rfl | exact nZ_bI _) hM ⟨rfl, rfl⟩ (Nat.le_of_ble_eq_true rfl) (Nat.le_of_ble_eq_true rfl) dX2_polish_61
set_option maxHeartbeats 4000000 in
theorem cs_X2_polish_no (l : Launch) {G : mG} {ad : Nat → Nat} {n : Nat} {r : Nat → Int32} {f : Nat → UInt32} {dv : Nat → Int32} {M0 : mM} {k : Nat} (hd : sAd n ad) (hn : n ≤ 6) (hk : k < 100) (hno : ¬ (k < n ∧ dv k = -1)) : mMet l yX2_polish (ws_ yX2_polish cX2_polish 3 (some .boolean)) (mRm 4 0 0) [.ref (ad 0), .int (nI k)] G (pPre (sM G ad n r f dv M0)) (pPost (sM G ad n r f dv M0) (some (.int (nI 0)))) := by
  refine mMet.of (by decide +kernel) (Nat.le_of_ble_eq_true rfl) fun p e s m args below meth c A Q M hM0 F hnm hQ hM ls hl => ?_
  have hM0 : M = sM G ad n r f dv M0 := hM0
  subst hM0
  have hl : lv_has ls 3 [(0, .ref (ad 0)), (1, .int (nI k))] := hl
  refine lv_iload_n F.1.1 F.1.2.1 dX2_polish_0 rfl (lv_at hl 1 rfl) ?_
  refine lv_aload_n F.1.1 F.1.2.1 dX2_polish_1 rfl (lv_at hl 0 rfl) ?_
  refine cg1 F hM (sM_0 hd) 1 (by decide) q308 (fun x h => h) rfl dX2_polish_2 ?_
  refine mc_Fa (As := []) F hM (cs_J2_size l hd hn ) (va_cwF 0 F.1.2.2.2.2 (lw_F q815 q408 q410 q74 q412) rfl rfl rfl (mFw F (by decide) q411 q409 q407) (by decide +kernel) (mRm_ok (by decide) (by decide))) (sM_2 hd) rfl rfl (F.2.1.1 9 _ rfl).2 rfl rfl hl.1 rfl (Nat.le_of_ble_eq_true rfl) dX2_polish_5 ⟨Nat.le_of_ble_eq_true rfl, Nat.le_of_ble_eq_true rfl⟩ (fun H locs hM => ?_)
  refine mr_icmp_geN F (tgt := 37) dX2_polish_10 (by decide) (by omega) (by omega) (fun c10 => ?_) (fun c10 => ?_)
  · refine mr_iconst F 0 dX2_polish_37 (by decide +kernel) ?_
    refine lv_istore_n (lv' := [(2, _), (0, _), (1, _)]) F.1.1 F.1.2.1 dX2_polish_38 rfl hl (by decide) rfl (fun ls hl => ?_)
    refine lv_iload_n F.1.1 F.1.2.1 dX2_polish_39 rfl (lv_at hl 0 rfl) ?_
    refine mr_ifeqN F (tgt := 60) dX2_polish_40 (by decide) (by omega) (fun c40 => ?_) (fun c40 => ?_)
    · refine lv_iload_n F.1.1 F.1.2.1 dX2_polish_60 rfl (lv_at hl 0 rfl) ?_
      exact mr_zret F hQ (by first | rfl | exact nZ_bI _) hM ⟨rfl, rfl⟩ (Nat.le_of_ble_eq_true rfl) (Nat.le_of_ble_eq_true rfl) dX2_polish_61
    · exact absurd rfl c40
  · have hkn : k < n := by omega
    refine lv_aload_n F.1.1 F.1.2.1 dX2_polish_13 rfl (lv_at hl 0 rfl) ?_
    refine cg1 F hM (sM_0 hd) 1 (by decide) q308 (fun x h => h) rfl dX2_polish_14 ?_
    refine lv_iload_n F.1.1 F.1.2.1 dX2_polish_17 rfl (lv_at hl 1 rfl) ?_
    refine mc_Fa (As := [_]) F hM (cs_J2_get l hd hn (by omega)) (va_cwF 1 F.1.2.2.2.2 (lw_F q827 q830 q832 q74 q834) rfl rfl rfl (mFw F (by decide) q833 q831 q407) (by decide +kernel) (mRm_ok (by decide) (by decide))) (sM_2 hd) rfl rfl (F.2.1.1 9 _ rfl).2 rfl rfl hl.1 rfl (Nat.le_of_ble_eq_true rfl) dX2_polish_18 ⟨Nat.le_of_ble_eq_true rfl, Nat.le_of_ble_eq_true rfl⟩ (fun H locs hM => ?_)
    refine mr_castS F hM (sM_P hd hn (by omega)) (ci := 6) rfl q843 dX2_polish_23 ?_
    refine cg6 F hM (sM_P hd hn (by omega)) 2 (by decide) q1132 (fun x h => h) rfl dX2_polish_26 ?_
    refine lv_iconst (v := -1) F.1.1 F.1.2.1 dX2_polish_29 (by decide +kernel) ?_
    refine lv_icmp_ne (tgt := 37) F.1.1 F.1.2.1 dX2_polish_30 (by decide) (fun c30 => ?_) (fun c30 => ?_)
    · refine mr_iconst F 0 dX2_polish_37 (by decide +kernel) ?_
      refine lv_istore_n (lv' := [(2, _), (0, _), (1, _)]) F.1.1 F.1.2.1 dX2_polish_38 rfl hl (by decide) rfl (fun ls hl => ?_)
      refine lv_iload_n F.1.1 F.1.2.1 dX2_polish_39 rfl (lv_at hl 0 rfl) ?_
      refine mr_ifeqN F (tgt := 60) dX2_polish_40 (by decide) (by omega) (fun c40 => ?_) (fun c40 => ?_)
      · refine lv_iload_n F.1.1 F.1.2.1 dX2_polish_60 rfl (lv_at hl 0 rfl) ?_
        exact mr_zret F hQ (by first | rfl | exact nZ_bI _) hM ⟨rfl, rfl⟩ (Nat.le_of_ble_eq_true rfl) (Nat.le_of_ble_eq_true rfl) dX2_polish_61
      · exact absurd rfl c40
    · exact absurd ⟨hkn, c30⟩ hno
