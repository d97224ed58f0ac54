/-! THE SYSTEM: surfaces and heads -/
set_option maxHeartbeats 4000000 in
theorem cs_X9_signal (l : Launch) {G : mG} {M0 : mM} {x : UInt32} {y : Int32} (hS : x ∈ fsL) (hA : ¬ y < nI 20 ∨ ∃ d, d < 20 ∧ y = nI d) : mMet l yX9_signal (ws_ yX9_signal cX9_signal 3 (some .float)) (mRm 1 0 0) [.float x, .int y] G (pPre (M0)) (pPost (M0) (some (.float (fSg y x)))) := by
  refine mMet.of (by decide +kernel) (Nat.le_of_ble_eq_true rfl) fun p e s m args below meth c A Q M hM0 F hnm hQ hM ls hl => ?_
  have hM0 : M0 = M := hM0.symm
  subst hM0
  have hl : lv_has ls 3 [(0, .float x), (1, .int y)] := hl
  refine lv_iload_n F.1.1 F.1.2.1 dX9_signal_0 rfl (lv_at hl 1 rfl) ?_
  refine mr_bipush F 20 dX9_signal_1 (by decide +kernel) ?_
  refine lv_icmp_lt (tgt := 8) F.1.1 F.1.2.1 dX9_signal_3 (by decide) (fun c3 => ?_) (fun c3 => ?_)
  · have hE : fSg y x = FP.fmul (FP.fsub FP.fconst1 (FP.fdiv (FP.i2f y) f20)) x := if_pos c3
    obtain ⟨d0, hd0, rfl⟩ := hA.resolve_left (fun q => q c3)
    refine lv_iload_n F.1.1 F.1.2.1 dX9_signal_8 rfl (lv_at hl 1 rfl) ?_
    refine lv_i2f F.1.1 F.1.2.1 dX9_signal_9 ?_
    refine lv_ldcf F.1.1 F.1.2.1 F.1.2.2.2.1 (F.1.2.2.2.2 _ q968) dX9_signal_10 ?_
    refine lv_fdiv F.1.1 F.1.2.1 dX9_signal_12 (fs_pt' hd0).1 ?_
    refine lv_fstore_n (lv' := [(2, _), (0, _), (1, _)]) F.1.1 F.1.2.1 dX9_signal_13 rfl hl (by decide) rfl (fun ls hl => ?_)
    refine lv_fconst1 F.1.1 F.1.2.1 dX9_signal_14 ?_
    refine lv_fload_n F.1.1 F.1.2.1 dX9_signal_15 rfl (lv_at hl 0 rfl) ?_
    refine lv_fsub F.1.1 F.1.2.1 dX9_signal_16 (fs_pt' hd0).2 ?_
    refine lv_fload_n F.1.1 F.1.2.1 dX9_signal_17 rfl (lv_at hl 1 rfl) ?_
    refine lv_fmul F.1.1 F.1.2.1 dX9_signal_18 (fs_sig' hd0 hS).1 ?_
    exact mr_fret F hQ hM ⟨by rw [hE] <;> rfl, rfl⟩ (Nat.le_of_ble_eq_true rfl) (Nat.le_of_ble_eq_true rfl) dX9_signal_19
  · have hE : fSg y x = FP.fconst0 := if_neg c3
    refine lv_fconst0 F.1.1 F.1.2.1 dX9_signal_6 ?_
    exact mr_fret F hQ hM ⟨by rw [hE] <;> rfl, rfl⟩ (Nat.le_of_ble_eq_true rfl) (Nat.le_of_ble_eq_true rfl) dX9_signal_7
set_option maxHeartbeats 4000000 in
theorem cs_X9_signalAt (l : Launch) {G : mG} {ad : Nat → Nat} {n : Nat} {r : Nat → Int32} {f : Nat → UInt32} {dv : Nat → Int32} {M0 : mM} {k j : Nat} {x : Int32} (hd : sAd n ad) (hn : n ≤ 6) (h1 : k < 3 * n) (h2 : j < 40) (hS : f (40 * k + j) ∈ fsL) (hA : ¬ (mAp x (r (846 + (40 * k + j)))) < nI 20 ∨ ∃ d, d < 20 ∧ (mAp x (r (846 + (40 * k + j)))) = nI d) : mMet l yX9_signalAt (ws_ yX9_signalAt cX9_signalAt 3 (some .float)) (mRm 2 0 0) [.ref (ad (80 + k)), .int (nI j), .int x] G (pPre (sM G ad n r f dv M0)) (pPost (sM G ad n r f dv M0) (some (.float (if r (126 + (40 * k + j)) = -1 then FP.fconst0 else fSg (mAp x (r (846 + (40 * k + j)))) (f (40 * k + j)))))) := by
  refine mMet.of (by decide +kernel) (Nat.le_of_ble_eq_true rfl) fun p e s m args below meth c A Q M hM0 F hnm hQ hM ls hl => ?_
  have hM0 : M = sM G ad n r f dv M0 := hM0
  subst hM0
  have hl : lv_has ls 3 [(0, .ref (ad (80 + k))), (1, .int (nI j)), (2, .int x)] := hl
  refine lv_aload_n F.1.1 F.1.2.1 dX9_signalAt_0 rfl (lv_at hl 0 rfl) ?_
  refine lv_iload_n F.1.1 F.1.2.1 dX9_signalAt_1 rfl (lv_at hl 1 rfl) ?_
  refine mc_Va (As := [_]) F hM (cs_X9_isEmpty l hd hn (by omega) (by omega)) (cwV 1 F.1.2.2.2.2 (lw_V q913 q914 q915 q95 q916) rfl rfl rfl (by decide +kernel) (mRm_ok (by decide) (by decide))) (sM_S hd hn (by omega)) rfl rfl rfl rfl hl.1 rfl (Nat.le_of_ble_eq_true rfl) dX9_signalAt_2 ⟨Nat.le_of_ble_eq_true rfl, Nat.le_of_ble_eq_true rfl⟩ (fun H locs hM => ?_)
  refine mr_ifeqB F (tgt := 12) dX9_signalAt_5 (by decide) (fun c5 => ?_) (fun c5 => ?_)
  · have hE : (if r (126 + (40 * k + j)) = -1 then FP.fconst0 else fSg (mAp x (r (846 + (40 * k + j)))) (f (40 * k + j))) = fSg (mAp x (r (846 + (40 * k + j)))) (f (40 * k + j)) := if_neg c5
    refine lv_aload_n F.1.1 F.1.2.1 dX9_signalAt_12 rfl (lv_at hl 0 rfl) ?_
    refine cg7 F hM (sM_S hd hn (by omega)) 2 (by decide) q1108 (fun x h => h) rfl dX9_signalAt_13 ?_
    refine lv_iload_n F.1.1 F.1.2.1 dX9_signalAt_16 rfl (lv_at hl 1 rfl) ?_
    refine sr_ldF F hd hn hM (j0 := 40 * k + j) (by omega) (by omega) (by omega) dX9_signalAt_17 ?_
    refine lv_iload_n F.1.1 F.1.2.1 dX9_signalAt_18 rfl (lv_at hl 2 rfl) ?_
    refine lv_aload_n F.1.1 F.1.2.1 dX9_signalAt_19 rfl (lv_at hl 0 rfl) ?_
    refine cg7 F hM (sM_S hd hn (by omega)) 1 (by decide) q1105 (fun x h => h) rfl dX9_signalAt_20 ?_
    refine lv_iload_n F.1.1 F.1.2.1 dX9_signalAt_23 rfl (lv_at hl 1 rfl) ?_
    refine sr_ldO F hd hn hM (j0 := 846 + (40 * k + j)) (by omega) (by omega) (by omega) dX9_signalAt_24 ?_
    refine mc_SNa (As := [_, _]) F hM (cs_X1_apart l ) ⟨va_cnB 2 F.1.2.2.2.2 (lw_meth q919) rfl rfl rfl (mN_w F q917 rfl) (F.1.2.2.2.2 _ q70) (by decide +kernel) (mRm_ok (by decide) (by decide)), F.1.2.2.2.2 _ q918, trivial⟩ rfl rfl hl.1 rfl (Nat.le_of_ble_eq_true rfl) dX9_signalAt_25 ⟨Nat.le_of_ble_eq_true rfl, Nat.le_of_ble_eq_true rfl⟩ (fun H locs hM => ?_)
    refine mc_Sa (As := [_, _]) F hM (cs_X9_signal l hS hA) (va_cwS 2 F.1.2.2.2.2 (lw_S q965 q966 q95 q967) rfl rfl rfl (by decide +kernel) (mRm_ok (by decide) (by decide))) rfl rfl hl.1 rfl (Nat.le_of_ble_eq_true rfl) dX9_signalAt_28 ⟨Nat.le_of_ble_eq_true rfl, Nat.le_of_ble_eq_true rfl⟩ (fun H locs hM => ?_)
    exact mr_fret F hQ hM ⟨by rw [hE], rfl⟩ (Nat.le_of_ble_eq_true rfl) (Nat.le_of_ble_eq_true rfl) dX9_signalAt_31
  · have hE : (if r (126 + (40 * k + j)) = -1 then FP.fconst0 else fSg (mAp x (r (846 + (40 * k + j)))) (f (40 * k + j))) = FP.fconst0 := if_pos c5
    refine lv_fconst0 F.1.1 F.1.2.1 dX9_signalAt_8 ?_
    refine lv_goto (tgt := 31) F.1.1 F.1.2.1 dX9_signalAt_9 (by decide) ?_
    exact mr_fret F hQ hM ⟨by rw [hE], rfl⟩ (Nat.le_of_ble_eq_true rfl) (Nat.le_of_ble_eq_true rfl) dX9_signalAt_31
set_option maxHeartbeats 4000000 in
theorem cs_X6_weakened (l : Launch) {G : mG} {ad : Nat → Nat} {n : Nat} {r : Nat → Int32} {f : Nat → UInt32} {dv : Nat → Int32} {M0 : mM} {d h : Nat} {x : UInt32} (hd : sAd n ad) (hn : n ≤ 6) (h1 : d < 4) (h2 : h < 3) (hx : vf_n32 (FP.fdiv x FP.fconst2)) : mMet l yX6_weakened (ws_ yX6_weakened cX6_weakened 2 (some .float)) (mRm 1 0 0) [.ref (ad (40 + (4 * d + h))), .float x] G (pPre (sM G ad n r f dv M0)) (pPost (sM G ad n r f dv M0) (some (.float (if r (16 + (4 * d + h)) = 0 then x else FP.fdiv x FP.fconst2)))) := by
  refine mMet.of (by decide +kernel) (Nat.le_of_ble_eq_true rfl) fun p e s m args below meth c A Q M hM0 F hnm hQ hM ls hl => ?_
  have hM0 : M = sM G ad n r f dv M0 := hM0
  subst hM0
  have hl : lv_has ls 2 [(0, .ref (ad (40 + (4 * d + h)))), (1, .float x)] := hl
  refine lv_aload_n F.1.1 F.1.2.1 dX6_weakened_0 rfl (lv_at hl 0 rfl) ?_
  refine cg4 F hM (sM_HD hd (by omega) (by omega)) 1 (by decide) q169 (u_same (F.1.2.2.2.2 _ q170)) rfl dX6_weakened_1 ?_
  refine lv_if_eq (tgt := 13) F.1.1 F.1.2.1 dX6_weakened_4 (by decide) (fun c4 => ?_) (fun c4 => ?_)
  · have hE : (if r (16 + (4 * d + h)) = 0 then x else FP.fdiv x FP.fconst2) = x := if_pos c4
    refine lv_fload_n F.1.1 F.1.2.1 dX6_weakened_13 rfl (lv_at hl 1 rfl) ?_
    exact mr_fret F hQ hM ⟨by rw [hE], rfl⟩ (Nat.le_of_ble_eq_true rfl) (Nat.le_of_ble_eq_true rfl) dX6_weakened_14
  · have hE : (if r (16 + (4 * d + h)) = 0 then x else FP.fdiv x FP.fconst2) = FP.fdiv x FP.fconst2 := if_neg c4
    refine lv_fload_n F.1.1 F.1.2.1 dX6_weakened_7 rfl (lv_at hl 1 rfl) ?_
    refine lv_fconst2 F.1.1 F.1.2.1 dX6_weakened_8 ?_
    refine lv_fdiv F.1.1 F.1.2.1 dX6_weakened_9 (by assumption) ?_
    refine lv_goto (tgt := 14) F.1.1 F.1.2.1 dX6_weakened_10 (by decide) ?_
    exact mr_fret F hQ hM ⟨by rw [hE], rfl⟩ (Nat.le_of_ble_eq_true rfl) (Nat.le_of_ble_eq_true rfl) dX6_weakened_14
set_option maxHeartbeats 4000000 in
theorem cs_X9_write (l : Launch) {G : mG} {ad : Nat → Nat} {n : Nat} {r : Nat → Int32} {f : Nat → UInt32} {dv : Nat → Int32} {M0 : mM} {k j : Nat} {v u : Int32} {x : UInt32} (hd : sAd n ad) (hn : n ≤ 6) (h1 : k < 3 * n) (h2 : j < 40) (hx : vf_n32 (FP.fmul x f75)) : mMet l yX9_write (ws_ yX9_write cX9_write 6 none) (mRm 2 0 0) [.ref (ad (80 + k)), .int (nI j), .int v, .int u, .float x] G (pPre (sM G ad n r f dv M0)) (pPost (sM G ad n (va_up (va_up r (126 + (40 * k + j)) v) (846 + (40 * k + j)) u) (va_up f (40 * k + j) (if ¬ r (126 + (40 * k + j)) = -1 ∧ nI 10 < mAp (r (846 + (40 * k + j))) u then FP.fmul x f75 else x)) dv M0) (none)) := by
  refine mMet.of (by decide +kernel) (Nat.le_of_ble_eq_true rfl) fun p e s m args below meth c A Q M hM0 F hnm hQ hM ls hl => ?_
  have hM0 : M = sM G ad n r f dv M0 := hM0
  subst hM0
  have hl : lv_has ls 6 [(0, .ref (ad (80 + k))), (1, .int (nI j)), (2, .int v), (3, .int u), (4, .float x)] := hl
  refine lv_aload_n F.1.1 F.1.2.1 dX9_write_0 rfl (lv_at hl 0 rfl) ?_
  refine lv_iload_n F.1.1 F.1.2.1 dX9_write_1 rfl (lv_at hl 1 rfl) ?_
  refine mc_Va (As := [_]) F hM (cs_X9_isEmpty l hd hn (by omega) (by omega)) (cwV 1 F.1.2.2.2.2 (lw_V q913 q914 q915 q95 q916) rfl rfl rfl (by decide +kernel) (mRm_ok (by decide) (by decide))) (sM_S hd hn (by omega)) rfl rfl rfl rfl hl.1 rfl (Nat.le_of_ble_eq_true rfl) dX9_write_2 ⟨Nat.le_of_ble_eq_true rfl, Nat.le_of_ble_eq_true rfl⟩ (fun H locs hM => ?_)
  refine mr_ifneB F (tgt := 27) dX9_write_5 (by decide) (fun c5 => ?_) (fun c5 => ?_)
  · have hE : (if ¬ r (126 + (40 * k + j)) = -1 ∧ nI 10 < mAp (r (846 + (40 * k + j))) u then FP.fmul x f75 else x) = x := if_neg (fun q => absurd c5 q.1)
    refine mr_iconst F 0 dX9_write_27 (by decide +kernel) ?_
    refine lv_istore (lv' := [(5, _), (0, _), (1, _), (2, _), (3, _), (4, _)]) F.1.1 F.1.2.1 dX9_write_28 hl (by decide) rfl (fun ls hl => ?_)
    refine lv_aload_n F.1.1 F.1.2.1 dX9_write_30 rfl (lv_at hl 1 rfl) ?_
    refine cg7 F hM (sM_S hd hn (by omega)) 0 (by decide) q1102 (fun x h => h) rfl dX9_write_31 ?_
    refine lv_iload_n F.1.1 F.1.2.1 dX9_write_34 rfl (lv_at hl 2 rfl) ?_
    refine lv_iload_n F.1.1 F.1.2.1 dX9_write_35 rfl (lv_at hl 3 rfl) ?_
    refine sr_stV F hd hn hM (j0 := 126 + (40 * k + j)) (by omega) (by omega) (by omega) dX9_write_36 (fun H locs hM => ?_)
    refine lv_aload_n F.1.1 F.1.2.1 dX9_write_37 rfl (lv_at hl 1 rfl) ?_
    refine cg7 F hM (sM_S hd hn (by omega)) 1 (by decide) q1105 (fun x h => h) rfl dX9_write_38 ?_
    refine lv_iload_n F.1.1 F.1.2.1 dX9_write_41 rfl (lv_at hl 2 rfl) ?_
    refine lv_iload_n F.1.1 F.1.2.1 dX9_write_42 rfl (lv_at hl 4 rfl) ?_
    refine sr_stO F hd hn hM (j0 := 846 + (40 * k + j)) (by omega) (by omega) (by omega) dX9_write_43 (fun H locs hM => ?_)
    refine lv_aload_n F.1.1 F.1.2.1 dX9_write_44 rfl (lv_at hl 1 rfl) ?_
    refine cg7 F hM (sM_S hd hn (by omega)) 2 (by decide) q1108 (fun x h => h) rfl dX9_write_45 ?_
    refine lv_iload_n F.1.1 F.1.2.1 dX9_write_48 rfl (lv_at hl 2 rfl) ?_
    refine lv_iload F.1.1 F.1.2.1 dX9_write_49 (lv_at hl 0 rfl) ?_
    refine mr_ifeqN F (tgt := 62) dX9_write_51 (by decide) (by omega) (fun c51 => ?_) (fun c51 => ?_)
    · refine lv_fload F.1.1 F.1.2.1 dX9_write_62 (lv_at hl 5 rfl) ?_
      refine sr_stF F hd hn hM (j0 := 40 * k + j) (by omega) (by omega) (by omega) dX9_write_64 (fun H locs hM => ?_)
      exact mr_vret F hQ hM ⟨rfl, by rw [hE] <;> rfl⟩ (Nat.le_of_ble_eq_true rfl) (Nat.le_of_ble_eq_true rfl) dX9_write_65
    · exact absurd rfl c51
  · refine lv_aload_n F.1.1 F.1.2.1 dX9_write_8 rfl (lv_at hl 0 rfl) ?_
    refine cg7 F hM (sM_S hd hn (by omega)) 1 (by decide) q1105 (fun x h => h) rfl dX9_write_9 ?_
    refine lv_iload_n F.1.1 F.1.2.1 dX9_write_12 rfl (lv_at hl 1 rfl) ?_
    refine sr_ldO F hd hn hM (j0 := 846 + (40 * k + j)) (by omega) (by omega) (by omega) dX9_write_13 ?_
    refine lv_iload_n F.1.1 F.1.2.1 dX9_write_14 rfl (lv_at hl 3 rfl) ?_
    refine mc_SNa (As := [_, _]) F hM (cs_X1_apart l ) ⟨va_cnB 2 F.1.2.2.2.2 (lw_meth q919) rfl rfl rfl (mN_w F q917 rfl) (F.1.2.2.2.2 _ q70) (by decide +kernel) (mRm_ok (by decide) (by decide)), F.1.2.2.2.2 _ q918, trivial⟩ rfl rfl hl.1 rfl (Nat.le_of_ble_eq_true rfl) dX9_write_15 ⟨Nat.le_of_ble_eq_true rfl, Nat.le_of_ble_eq_true rfl⟩ (fun H locs hM => ?_)
    refine mr_bipush F 10 dX9_write_18 (by decide +kernel) ?_
    refine lv_icmp_le (tgt := 27) F.1.1 F.1.2.1 dX9_write_20 (by decide) (fun c20 => ?_) (fun c20 => ?_)
    · have hE : (if ¬ r (126 + (40 * k + j)) = -1 ∧ nI 10 < mAp (r (846 + (40 * k + j))) u then FP.fmul x f75 else x) = x := if_neg (fun q => absurd q.2 (Int32.not_lt.mpr c20))
      refine mr_iconst F 0 dX9_write_27 (by decide +kernel) ?_
      refine lv_istore (lv' := [(5, _), (0, _), (1, _), (2, _), (3, _), (4, _)]) F.1.1 F.1.2.1 dX9_write_28 hl (by decide) rfl (fun ls hl => ?_)
      refine lv_aload_n F.1.1 F.1.2.1 dX9_write_30 rfl (lv_at hl 1 rfl) ?_
      refine cg7 F hM (sM_S hd hn (by omega)) 0 (by decide) q1102 (fun x h => h) rfl dX9_write_31 ?_
      refine lv_iload_n F.1.1 F.1.2.1 dX9_write_34 rfl (lv_at hl 2 rfl) ?_
      refine lv_iload_n F.1.1 F.1.2.1 dX9_write_35 rfl (lv_at hl 3 rfl) ?_
      refine sr_stV F hd hn hM (j0 := 126 + (40 * k + j)) (by omega) (by omega) (by omega) dX9_write_36 (fun H locs hM => ?_)
      refine lv_aload_n F.1.1 F.1.2.1 dX9_write_37 rfl (lv_at hl 1 rfl) ?_
      refine cg7 F hM (sM_S hd hn (by omega)) 1 (by decide) q1105 (fun x h => h) rfl dX9_write_38 ?_
      refine lv_iload_n F.1.1 F.1.2.1 dX9_write_41 rfl (lv_at hl 2 rfl) ?_
      refine lv_iload_n F.1.1 F.1.2.1 dX9_write_42 rfl (lv_at hl 4 rfl) ?_
      refine sr_stO F hd hn hM (j0 := 846 + (40 * k + j)) (by omega) (by omega) (by omega) dX9_write_43 (fun H locs hM => ?_)
      refine lv_aload_n F.1.1 F.1.2.1 dX9_write_44 rfl (lv_at hl 1 rfl) ?_
      refine cg7 F hM (sM_S hd hn (by omega)) 2 (by decide) q1108 (fun x h => h) rfl dX9_write_45 ?_
      refine lv_iload_n F.1.1 F.1.2.1 dX9_write_48 rfl (lv_at hl 2 rfl) ?_
      refine lv_iload F.1.1 F.1.2.1 dX9_write_49 (lv_at hl 0 rfl) ?_
      refine mr_ifeqN F (tgt := 62) dX9_write_51 (by decide) (by omega) (fun c51 => ?_) (fun c51 => ?_)
      · refine lv_fload F.1.1 F.1.2.1 dX9_write_62 (lv_at hl 5 rfl) ?_
        refine sr_stF F hd hn hM (j0 := 40 * k + j) (by omega) (by omega) (by omega) dX9_write_64 (fun H locs hM => ?_)
        exact mr_vret F hQ hM ⟨rfl, by rw [hE] <;> rfl⟩ (Nat.le_of_ble_eq_true rfl) (Nat.le_of_ble_eq_true rfl) dX9_write_65
      · exact absurd rfl c51
    · have hE : (if ¬ r (126 + (40 * k + j)) = -1 ∧ nI 10 < mAp (r (846 + (40 * k + j))) u then FP.fmul x f75 else x) = FP.fmul x f75 := if_pos ⟨c5, Int32.not_le.mp c20⟩
      refine mr_iconst F 1 dX9_write_23 (by decide +kernel) ?_
      refine lv_goto (tgt := 28) F.1.1 F.1.2.1 dX9_write_24 (by decide) ?_
      refine lv_istore (lv' := [(5, _), (0, _), (1, _), (2, _), (3, _), (4, _)]) F.1.1 F.1.2.1 dX9_write_28 hl (by decide) rfl (fun ls hl => ?_)
      refine lv_aload_n F.1.1 F.1.2.1 dX9_write_30 rfl (lv_at hl 1 rfl) ?_
      refine cg7 F hM (sM_S hd hn (by omega)) 0 (by decide) q1102 (fun x h => h) rfl dX9_write_31 ?_
      refine lv_iload_n F.1.1 F.1.2.1 dX9_write_34 rfl (lv_at hl 2 rfl) ?_
      refine lv_iload_n F.1.1 F.1.2.1 dX9_write_35 rfl (lv_at hl 3 rfl) ?_
      refine sr_stV F hd hn hM (j0 := 126 + (40 * k + j)) (by omega) (by omega) (by omega) dX9_write_36 (fun H locs hM => ?_)
      refine lv_aload_n F.1.1 F.1.2.1 dX9_write_37 rfl (lv_at hl 1 rfl) ?_
      refine cg7 F hM (sM_S hd hn (by omega)) 1 (by decide) q1105 (fun x h => h) rfl dX9_write_38 ?_
      refine lv_iload_n F.1.1 F.1.2.1 dX9_write_41 rfl (lv_at hl 2 rfl) ?_
      refine lv_iload_n F.1.1 F.1.2.1 dX9_write_42 rfl (lv_at hl 4 rfl) ?_
      refine sr_stO F hd hn hM (j0 := 846 + (40 * k + j)) (by omega) (by omega) (by omega) dX9_write_43 (fun H locs hM => ?_)
      refine lv_aload_n F.1.1 F.1.2.1 dX9_write_44 rfl (lv_at hl 1 rfl) ?_
      refine cg7 F hM (sM_S hd hn (by omega)) 2 (by decide) q1108 (fun x h => h) rfl dX9_write_45 ?_
      refine lv_iload_n F.1.1 F.1.2.1 dX9_write_48 rfl (lv_at hl 2 rfl) ?_
      refine lv_iload F.1.1 F.1.2.1 dX9_write_49 (lv_at hl 0 rfl) ?_
      refine mr_ifeqN F (tgt := 62) dX9_write_51 (by decide) (by omega) (fun c51 => ?_) (fun c51 => ?_)
      · exact absurd c51 (by decide)
      · refine lv_fload F.1.1 F.1.2.1 dX9_write_54 (lv_at hl 5 rfl) ?_
        refine lv_ldcf F.1.1 F.1.2.1 F.1.2.2.2.1 (F.1.2.2.2.2 _ q920) dX9_write_56 ?_
        refine lv_fmul F.1.1 F.1.2.1 dX9_write_58 (by assumption) ?_
        refine lv_goto (tgt := 64) F.1.1 F.1.2.1 dX9_write_59 (by decide) ?_
        refine sr_stF F hd hn hM (j0 := 40 * k + j) (by omega) (by omega) (by omega) dX9_write_64 (fun H locs hM => ?_)
        exact mr_vret F hQ hM ⟨rfl, by rw [hE] <;> rfl⟩ (Nat.le_of_ble_eq_true rfl) (Nat.le_of_ble_eq_true rfl) dX9_write_65
