/-! THE SYSTEM: reasons -/
set_option maxHeartbeats 4000000 in
theorem cs_X2_lambda_canMount_0 (l : Launch) {G : mG} {ad : Nat → Nat} {n : Nat} {r : Nat → Int32} {f : Nat → UInt32} {dv : Nat → Int32} {M0 : mM} {k : Nat} (hd : sAd n ad) (hn : n ≤ 6) (hk : k < 100) : mMet l yX2_lambda_canMount_0 (ws_ yX2_lambda_canMount_0 cX2_lambda_canMount_0 2 (some .boolean)) (mRm 2 0 0) [.ref (ad 0), .int (nI k)] G (pPre (sM G ad n r f dv M0)) (pPost (sM G ad n r f dv M0) (some (.int (bI (n ≤ k))))) := by
  refine mMet.of (by decide +kernel) (Nat.le_of_ble_eq_true rfl) fun p e s m args below meth c A Q M hM0 F hnm hQ hM ls hl => ?_
  have hM0 : M = sM G ad n r f dv M0 := hM0
  subst hM0
  have hl : lv_has ls 2 [(0, .ref (ad 0)), (1, .int (nI k))] := hl
  refine lv_iload_n F.1.1 F.1.2.1 dX2_lambda_canMount_0_0 rfl (lv_at hl 1 rfl) ?_
  refine lv_aload_n F.1.1 F.1.2.1 dX2_lambda_canMount_0_1 rfl (lv_at hl 0 rfl) ?_
  refine cg1 F hM (sM_0 hd) 1 (by decide) q308 (fun x h => h) rfl dX2_lambda_canMount_0_2 ?_
  refine mc_Fa (As := []) F hM (cs_J2_size l hd hn ) (va_cwF 0 F.1.2.2.2.2 (lw_F q815 q408 q410 q74 q412) rfl rfl rfl (mFw F (by decide) q411 q409 q407) (by decide +kernel) (mRm_ok (by decide) (by decide))) (sM_2 hd) rfl rfl (F.2.1.1 9 _ rfl).2 rfl rfl hl.1 rfl (Nat.le_of_ble_eq_true rfl) dX2_lambda_canMount_0_5 ⟨Nat.le_of_ble_eq_true rfl, Nat.le_of_ble_eq_true rfl⟩ (fun H locs hM => ?_)
  refine mr_icmp_ltN F (tgt := 17) dX2_lambda_canMount_0_10 (by decide) (by omega) (by omega) (fun c10 => ?_) (fun c10 => ?_)
  · have hE : bI (n ≤ k) = nI 0 := bI_f (by omega)
    refine mr_iconst F 0 dX2_lambda_canMount_0_17 (by decide +kernel) ?_
    exact mr_zret F hQ (by first | rfl | exact nZ_bI _) hM ⟨by rw [hE], rfl⟩ (Nat.le_of_ble_eq_true rfl) (Nat.le_of_ble_eq_true rfl) dX2_lambda_canMount_0_18
  · have hE : bI (n ≤ k) = nI 1 := bI_t (by omega)
    refine mr_iconst F 1 dX2_lambda_canMount_0_13 (by decide +kernel) ?_
    refine lv_goto (tgt := 18) F.1.1 F.1.2.1 dX2_lambda_canMount_0_14 (by decide) ?_
    exact mr_zret F hQ (by first | rfl | exact nZ_bI _) hM ⟨by rw [hE], rfl⟩ (Nat.le_of_ble_eq_true rfl) (Nat.le_of_ble_eq_true rfl) dX2_lambda_canMount_0_18
set_option maxHeartbeats 4000000 in
theorem cs_X2_lambda_canMount_1 (l : Launch) {G : mG} {ad : Nat → Nat} {n : Nat} {r : Nat → Int32} {f : Nat → UInt32} {dv : Nat → Int32} {M0 : mM} {d : Nat} (hd : sAd n ad) (hn : n ≤ 6) (h1 : d < 4) : mMet l yX2_lambda_canMount_1 (ws_ yX2_lambda_canMount_1 cX2_lambda_canMount_1 2 (some .boolean)) (mRm 2 0 0) [.ref (ad 0), .int (nI d)] G (pPre (sM G ad n r f dv M0)) (pPost (sM G ad n r f dv M0) (some (.int (bI (¬ r (60 + d) = -1))))) := by
  refine mMet.of (by decide +kernel) (Nat.le_of_ble_eq_true rfl) fun p e s m args below meth c A Q M hM0 F hnm hQ hM ls hl => ?_
  have hM0 : M = sM G ad n r f dv M0 := hM0
  subst hM0
  have hl : lv_has ls 2 [(0, .ref (ad 0)), (1, .int (nI d))] := hl
  refine lv_aload_n F.1.1 F.1.2.1 dX2_lambda_canMount_1_0 rfl (lv_at hl 0 rfl) ?_
  refine lv_iload_n F.1.1 F.1.2.1 dX2_lambda_canMount_1_1 rfl (lv_at hl 1 rfl) ?_
  refine mc_Va (As := [_]) F hM (cs_X2_hasPack l hd hn (by omega)) (cwV 1 F.1.2.2.2.2 (lw_V q819 q820 q821 q71 q822) rfl rfl rfl (by decide +kernel) (mRm_ok (by decide) (by decide))) (sM_0 hd) rfl rfl rfl rfl hl.1 rfl (Nat.le_of_ble_eq_true rfl) dX2_lambda_canMount_1_2 ⟨Nat.le_of_ble_eq_true rfl, Nat.le_of_ble_eq_true rfl⟩ (fun H locs hM => ?_)
  exact mr_zret F hQ (nZ_bI _) hM ⟨rfl, rfl⟩ (Nat.le_of_ble_eq_true rfl) (Nat.le_of_ble_eq_true rfl) dX2_lambda_canMount_1_5
set_option maxHeartbeats 4000000 in
theorem cs_X2_lambda_canMount_2 (l : Launch) {G : mG} {ad : Nat → Nat} {n : Nat} {r : Nat → Int32} {f : Nat → UInt32} {dv : Nat → Int32} {M0 : mM} {k : Nat} (hd : sAd n ad) (hn : n ≤ 6) (h3 : k < n) : mMet l yX2_lambda_canMount_2 (ws_ yX2_lambda_canMount_2 cX2_lambda_canMount_2 2 (some .boolean)) (mRm 4 0 0) [.ref (ad 0), .int (nI k)] G (pPre (sM G ad n r f dv M0)) (pPost (sM G ad n r f dv M0) (some (.int (bI (¬ dv k = -1))))) := by
  refine mMet.of (by decide +kernel) (Nat.le_of_ble_eq_true rfl) fun p e s m args below meth c A Q M hM0 F hnm hQ hM ls hl => ?_
  have hM0 : M = sM G ad n r f dv M0 := hM0
  subst hM0
  have hl : lv_has ls 2 [(0, .ref (ad 0)), (1, .int (nI k))] := hl
  refine lv_aload_n F.1.1 F.1.2.1 dX2_lambda_canMount_2_0 rfl (lv_at hl 0 rfl) ?_
  refine cg1 F hM (sM_0 hd) 1 (by decide) q308 (fun x h => h) rfl dX2_lambda_canMount_2_1 ?_
  refine lv_iload_n F.1.1 F.1.2.1 dX2_lambda_canMount_2_4 rfl (lv_at hl 1 rfl) ?_
  refine mc_Fa (As := [_]) F hM (cs_J2_get l hd hn (by omega)) (va_cwF 1 F.1.2.2.2.2 (lw_F q827 q830 q832 q74 q834) rfl rfl rfl (mFw F (by decide) q833 q831 q407) (by decide +kernel) (mRm_ok (by decide) (by decide))) (sM_2 hd) rfl rfl (F.2.1.1 9 _ rfl).2 rfl rfl hl.1 rfl (Nat.le_of_ble_eq_true rfl) dX2_lambda_canMount_2_5 ⟨Nat.le_of_ble_eq_true rfl, Nat.le_of_ble_eq_true rfl⟩ (fun H locs hM => ?_)
  refine mr_castS F hM (sM_P hd hn (by omega)) (ci := 6) rfl q843 dX2_lambda_canMount_2_10 ?_
  refine cg6 F hM (sM_P hd hn (by omega)) 2 (by decide) q1132 (fun x h => h) rfl dX2_lambda_canMount_2_13 ?_
  refine lv_iconst (v := -1) F.1.1 F.1.2.1 dX2_lambda_canMount_2_16 (by decide +kernel) ?_
  refine lv_icmp_eq (tgt := 24) F.1.1 F.1.2.1 dX2_lambda_canMount_2_17 (by decide) (fun c17 => ?_) (fun c17 => ?_)
  · have hE : bI (¬ dv k = -1) = nI 0 := bI_f (fun q => q c17)
    refine mr_iconst F 0 dX2_lambda_canMount_2_24 (by decide +kernel) ?_
    exact mr_zret F hQ (by first | rfl | exact nZ_bI _) hM ⟨by rw [hE], rfl⟩ (Nat.le_of_ble_eq_true rfl) (Nat.le_of_ble_eq_true rfl) dX2_lambda_canMount_2_25
  · have hE : bI (¬ dv k = -1) = nI 1 := bI_t c17
    refine mr_iconst F 1 dX2_lambda_canMount_2_20 (by decide +kernel) ?_
    refine lv_goto (tgt := 25) F.1.1 F.1.2.1 dX2_lambda_canMount_2_21 (by decide) ?_
    exact mr_zret F hQ (by first | rfl | exact nZ_bI _) hM ⟨by rw [hE], rfl⟩ (Nat.le_of_ble_eq_true rfl) (Nat.le_of_ble_eq_true rfl) dX2_lambda_canMount_2_25
set_option maxHeartbeats 4000000 in
theorem cs_X2_lambda_canMakePack_3 (l : Launch) {G : mG} {ad : Nat → Nat} {n : Nat} {r : Nat → Int32} {f : Nat → UInt32} {dv : Nat → Int32} {M0 : mM}  (hd : sAd n ad) (hn : n ≤ 6) : mMet l yX2_lambda_canMakePack_3 (ws_ yX2_lambda_canMakePack_3 cX2_lambda_canMakePack_3 1 (some .boolean)) (mRm 2 0 0) [.ref (ad 0)] G (pPre (sM G ad n r f dv M0)) (pPost (sM G ad n r f dv M0) (some (.int (bI (n = 6))))) := by
  refine mMet.of (by decide +kernel) (Nat.le_of_ble_eq_true rfl) fun p e s m args below meth c A Q M hM0 F hnm hQ hM ls hl => ?_
  have hM0 : M = sM G ad n r f dv M0 := hM0
  subst hM0
  have hl : lv_has ls 1 [(0, .ref (ad 0))] := hl
  refine lv_aload_n F.1.1 F.1.2.1 dX2_lambda_canMakePack_3_0 rfl (lv_at hl 0 rfl) ?_
  refine cg1 F hM (sM_0 hd) 1 (by decide) q308 (fun x h => h) rfl dX2_lambda_canMakePack_3_1 ?_
  refine mc_Fa (As := []) F hM (cs_J2_size l hd hn ) (va_cwF 0 F.1.2.2.2.2 (lw_F q815 q408 q410 q74 q412) rfl rfl rfl (mFw F (by decide) q411 q409 q407) (by decide +kernel) (mRm_ok (by decide) (by decide))) (sM_2 hd) rfl rfl (F.2.1.1 9 _ rfl).2 rfl rfl hl.1 rfl (Nat.le_of_ble_eq_true rfl) dX2_lambda_canMakePack_3_4 ⟨Nat.le_of_ble_eq_true rfl, Nat.le_of_ble_eq_true rfl⟩ (fun H locs hM => ?_)
  refine mr_bipush F 6 dX2_lambda_canMakePack_3_9 (by decide +kernel) ?_
  refine mr_icmp_neN F (tgt := 18) dX2_lambda_canMakePack_3_11 (by decide) (by omega) (by omega) (fun c11 => ?_) (fun c11 => ?_)
  · have hE : bI (n = 6) = nI 0 := bI_f c11
    refine mr_iconst F 0 dX2_lambda_canMakePack_3_18 (by decide +kernel) ?_
    exact mr_zret F hQ (by first | rfl | exact nZ_bI _) hM ⟨by rw [hE], rfl⟩ (Nat.le_of_ble_eq_true rfl) (Nat.le_of_ble_eq_true rfl) dX2_lambda_canMakePack_3_19
  · have hE : bI (n = 6) = nI 1 := bI_t c11
    refine mr_iconst F 1 dX2_lambda_canMakePack_3_14 (by decide +kernel) ?_
    refine lv_goto (tgt := 19) F.1.1 F.1.2.1 dX2_lambda_canMakePack_3_15 (by decide) ?_
    exact mr_zret F hQ (by first | rfl | exact nZ_bI _) hM ⟨by rw [hE], rfl⟩ (Nat.le_of_ble_eq_true rfl) (Nat.le_of_ble_eq_true rfl) dX2_lambda_canMakePack_3_19
set_option maxHeartbeats 4000000 in
theorem cs_X2_lambda_canMakePack_4 (l : Launch) {G : mG} {ad : Nat → Nat} {n : Nat} {r : Nat → Int32} {f : Nat → UInt32} {dv : Nat → Int32} {M0 : mM} {d : Nat} (hd : sAd n ad) (hn : n ≤ 6) (hs : r (16 + (4 * d + 3)) = nI 0 ∨ r (16 + (4 * d + 3)) = nI 1) (h1 : d < 4) : mMet l yX2_lambda_canMakePack_4 (ws_ yX2_lambda_canMakePack_4 cX2_lambda_canMakePack_4 2 (some .boolean)) (mRm 1 0 0) [.ref (ad 0), .int (nI d)] G (pPre (sM G ad n r f dv M0)) (pPost (sM G ad n r f dv M0) (some (.int (r (16 + (4 * d + 3)))))) := by
  refine mMet.of (by decide +kernel) (Nat.le_of_ble_eq_true rfl) fun p e s m args below meth c A Q M hM0 F hnm hQ hM ls hl => ?_
  have hM0 : M = sM G ad n r f dv M0 := hM0
  subst hM0
  have hl : lv_has ls 2 [(0, .ref (ad 0)), (1, .int (nI d))] := hl
  refine lv_aload_n F.1.1 F.1.2.1 dX2_lambda_canMakePack_4_0 rfl (lv_at hl 0 rfl) ?_
  refine cg1 F hM (sM_0 hd) 0 (by decide) q306 (fun x h => h) rfl dX2_lambda_canMakePack_4_1 ?_
  refine lv_iload_n F.1.1 F.1.2.1 dX2_lambda_canMakePack_4_4 rfl (lv_at hl 1 rfl) ?_
  refine sr_ld1 F hd hM (by omega) dX2_lambda_canMakePack_4_5 ?_
  refine cg2 F hM (sM_D hd (by omega)) 1 (by decide) q275 (fun x h => h) rfl dX2_lambda_canMakePack_4_6 ?_
  refine cg3 F hM (sM_HS hd (by omega)) 1 (by decide) q172 (fun x h => h) rfl dX2_lambda_canMakePack_4_9 ?_
  exact mr_zret F hQ (nZ01 hs) hM ⟨rfl, rfl⟩ (Nat.le_of_ble_eq_true rfl) (Nat.le_of_ble_eq_true rfl) dX2_lambda_canMakePack_4_12
set_option maxHeartbeats 4000000 in
theorem cs_X1_none_M (l : Launch) {G : mG} {ad : Nat → Nat} {n : Nat} {r : Nat → Int32} {f : Nat → UInt32} {dv : Nat → Int32} {M0 : mM} {q0 q1 q2 q3 d k : Nat} {fn : Nat → Option Nat} (hd : sAd n ad) (hn : n ≤ 6) (hS : sAt G ad n r f dv M0) (hq0 : M0 q0 = some (eQ (G.2.1 9) 3 fn)) (f0 : fn 0 = some q1) (f1 : fn 1 = some q2) (f2 : fn 2 = some q3) (e1 : M0 q1 = some (.inr (lamC (G.2.1 (20 + 1)) [.ref (ad 0), .int (nI k)]))) (e2 : M0 q2 = some (.inr (lamC (G.2.1 (20 + 2)) [.ref (ad 0), .int (nI d)]))) (e3 : M0 q3 = some (.inr (lamC (G.2.1 (20 + 3)) [.ref (ad 0), .int (nI k)]))) (h1 : d < 4) (hk : k < 100) : mMet l yX1_none (ws_ yX1_none cX1_none 2 (some .boolean)) (mRm 7 0 0) [.ref q0] G (pPre (M0)) (pPost (M0) (some (.int (bI (k < n ∧ r (60 + d) = -1 ∧ dv k = -1))))) := by
  refine mMet.of (by decide +kernel) (Nat.le_of_ble_eq_true rfl) fun p e s m args below meth c A Q M hM0 F hnm hQ hM ls hl => ?_
  have hM0 : M0 = M := hM0.symm
  subst hM0
  have hl : lv_has ls 2 [(0, .ref q0)] := hl
  have hb0 : M0 (ad 0) = some (eO 1 (sF0 ad r)) := (hS 0 (by unfold sL; omega)).trans rfl
  refine mr_iconst F 0 dX1_none_0 (by decide +kernel) ?_
  refine lv_istore_n (lv' := [(1, _), (0, _)]) F.1.1 F.1.2.1 dX1_none_1 rfl hl (by decide) rfl (fun ls hl => ?_)
  refine lv_iload_n F.1.1 F.1.2.1 dX1_none_2 rfl (lv_at hl 0 rfl) ?_
  refine lv_aload_n F.1.1 F.1.2.1 dX1_none_3 rfl (lv_at hl 1 rfl) ?_
  refine mr_alenQ F hM 9 hq0 rfl dX1_none_4 ?_
  refine mr_icmp_geN F (tgt := 27) dX1_none_5 (by decide) (by omega) (by omega) (fun c5 => ?_) (fun c5 => ?_)
  · exact absurd c5 (by decide)
  · refine lv_aload_n F.1.1 F.1.2.1 dX1_none_8 rfl (lv_at hl 1 rfl) ?_
    refine lv_iload_n F.1.1 F.1.2.1 dX1_none_9 rfl (lv_at hl 0 rfl) ?_
    refine mr_aald F.1.1 F.1.2.1 F.2.1 hM 9 hq0 rfl (by decide) (by decide) (show va_rf (fn 0) = .ref q1 from congrArg va_rf f0) dX1_none_10 ?_
    refine mc_R2 F hM (k := 1) rfl e1 lo1 rfl (by decide +kernel) q848 (by decide +kernel) (y := yX2_lambda_canMount_0) (by decide +kernel) (by decide +kernel) hb0 (ci2 := 1) rfl rfl (bI_01 _) (cs_X2_lambda_canMount_0 l hd hn (by omega)) (sAt.eq hd hS).symm q813 q812 qs7 q71 (lam_len (by decide +kernel)) (by decide) hl.1 rfl (Nat.le_of_ble_eq_true rfl) dX1_none_11 (Nat.le_of_ble_eq_true rfl) (Nat.le_of_ble_eq_true rfl) ⟨Nat.le_of_ble_eq_true rfl, Nat.le_of_ble_eq_true rfl⟩ (fun H locs hM => ?_)
    rw [sAt.eq hd hS] at hM
    refine mr_ifeqB F (tgt := 21) dX1_none_16 (by decide) (fun c16 => ?_) (fun c16 => ?_)
    · have hkn : k < n := by omega
      refine lv_iinc (lv' := [(1, _), (0, _)]) F.1.1 F.1.2.1 dX1_none_21 hl (k := 0) rfl (nK_add _ 1) (by decide) rfl (fun ls hl => ?_)
      refine lv_goto (tgt := 2) F.1.1 F.1.2.1 dX1_none_24 (by decide) ?_
      refine lv_iload_n F.1.1 F.1.2.1 dX1_none_2 rfl (lv_at hl 0 rfl) ?_
      refine lv_aload_n F.1.1 F.1.2.1 dX1_none_3 rfl (lv_at hl 1 rfl) ?_
      refine mr_alenQ F hM 9 hq0 rfl dX1_none_4 ?_
      refine mr_icmp_geN F (tgt := 27) dX1_none_5 (by decide) (by omega) (by omega) (fun c5 => ?_) (fun c5 => ?_)
      · exact absurd c5 (by decide)
      · refine lv_aload_n F.1.1 F.1.2.1 dX1_none_8 rfl (lv_at hl 1 rfl) ?_
        refine lv_iload_n F.1.1 F.1.2.1 dX1_none_9 rfl (lv_at hl 0 rfl) ?_
        refine mr_aald F.1.1 F.1.2.1 F.2.1 hM 9 hq0 rfl (by decide) (by decide) (show va_rf (fn (0 + 1)) = .ref q2 from congrArg va_rf f1) dX1_none_10 ?_
        refine mc_R2 F hM (k := 2) rfl e2 lo2 rfl (by decide +kernel) q848 (by decide +kernel) (y := yX2_lambda_canMount_1) (by decide +kernel) (by decide +kernel) hb0 (ci2 := 1) rfl rfl (bI_01 _) (cs_X2_lambda_canMount_1 l hd hn (by omega)) (sAt.eq hd hS).symm q818 q817 qs8 q71 (lam_len (by decide +kernel)) (by decide) hl.1 rfl (Nat.le_of_ble_eq_true rfl) dX1_none_11 (Nat.le_of_ble_eq_true rfl) (Nat.le_of_ble_eq_true rfl) ⟨Nat.le_of_ble_eq_true rfl, Nat.le_of_ble_eq_true rfl⟩ (fun H locs hM => ?_)
        rw [sAt.eq hd hS] at hM
        refine mr_ifeqB F (tgt := 21) dX1_none_16 (by decide) (fun c16 => ?_) (fun c16 => ?_)
        · have hpn : r (60 + d) = -1 := Classical.not_not.mp c16
          refine lv_iinc (lv' := [(1, _), (0, _)]) F.1.1 F.1.2.1 dX1_none_21 hl (k := 0) rfl (nK_add _ 1) (by decide) rfl (fun ls hl => ?_)
          refine lv_goto (tgt := 2) F.1.1 F.1.2.1 dX1_none_24 (by decide) ?_
          refine lv_iload_n F.1.1 F.1.2.1 dX1_none_2 rfl (lv_at hl 0 rfl) ?_
          refine lv_aload_n F.1.1 F.1.2.1 dX1_none_3 rfl (lv_at hl 1 rfl) ?_
          refine mr_alenQ F hM 9 hq0 rfl dX1_none_4 ?_
          refine mr_icmp_geN F (tgt := 27) dX1_none_5 (by decide) (by omega) (by omega) (fun c5 => ?_) (fun c5 => ?_)
          · exact absurd c5 (by decide)
          · refine lv_aload_n F.1.1 F.1.2.1 dX1_none_8 rfl (lv_at hl 1 rfl) ?_
            refine lv_iload_n F.1.1 F.1.2.1 dX1_none_9 rfl (lv_at hl 0 rfl) ?_
            refine mr_aald F.1.1 F.1.2.1 F.2.1 hM 9 hq0 rfl (by decide) (by decide) (show va_rf (fn (0 + 1 + 1)) = .ref q3 from congrArg va_rf f2) dX1_none_10 ?_
            refine mc_R2 F hM (k := 3) rfl e3 lo3 rfl (by decide +kernel) q848 (by decide +kernel) (y := yX2_lambda_canMount_2) (by decide +kernel) (by decide +kernel) hb0 (ci2 := 1) rfl rfl (bI_01 _) (cs_X2_lambda_canMount_2 l hd hn hkn) (sAt.eq hd hS).symm q825 q824 qs9 q71 (lam_len (by decide +kernel)) (by decide) hl.1 rfl (Nat.le_of_ble_eq_true rfl) dX1_none_11 (Nat.le_of_ble_eq_true rfl) (Nat.le_of_ble_eq_true rfl) ⟨Nat.le_of_ble_eq_true rfl, Nat.le_of_ble_eq_true rfl⟩ (fun H locs hM => ?_)
            rw [sAt.eq hd hS] at hM
            refine mr_ifeqB F (tgt := 21) dX1_none_16 (by decide) (fun c16 => ?_) (fun c16 => ?_)
            · have hdn : dv k = -1 := Classical.not_not.mp c16
              refine lv_iinc (lv' := [(1, _), (0, _)]) F.1.1 F.1.2.1 dX1_none_21 hl (k := 0) rfl (nK_add _ 1) (by decide) rfl (fun ls hl => ?_)
              refine lv_goto (tgt := 2) F.1.1 F.1.2.1 dX1_none_24 (by decide) ?_
              refine lv_iload_n F.1.1 F.1.2.1 dX1_none_2 rfl (lv_at hl 0 rfl) ?_
              refine lv_aload_n F.1.1 F.1.2.1 dX1_none_3 rfl (lv_at hl 1 rfl) ?_
              refine mr_alenQ F hM 9 hq0 rfl dX1_none_4 ?_
              refine mr_icmp_geN F (tgt := 27) dX1_none_5 (by decide) (by omega) (by omega) (fun c5 => ?_) (fun c5 => ?_)
              · have hE : bI (k < n ∧ r (60 + d) = -1 ∧ dv k = -1) = nI 1 := bI_t ⟨hkn, hpn, hdn⟩
                refine mr_iconst F 1 dX1_none_27 (by decide +kernel) ?_
                exact mr_zret F hQ (by first | rfl | exact nZ_bI _) hM ⟨by rw [hE], rfl⟩ (Nat.le_of_ble_eq_true rfl) (Nat.le_of_ble_eq_true rfl) dX1_none_28
              · exact absurd (by decide) c5
            · have hE : bI (k < n ∧ r (60 + d) = -1 ∧ dv k = -1) = nI 0 := bI_f (fun q => c16 q.2.2)
              refine mr_iconst F 0 dX1_none_19 (by decide +kernel) ?_
              exact mr_zret F hQ (by first | rfl | exact nZ_bI _) hM ⟨by rw [hE], rfl⟩ (Nat.le_of_ble_eq_true rfl) (Nat.le_of_ble_eq_true rfl) dX1_none_20
        · have hE : bI (k < n ∧ r (60 + d) = -1 ∧ dv k = -1) = nI 0 := bI_f (fun q => c16 q.2.1)
          refine mr_iconst F 0 dX1_none_19 (by decide +kernel) ?_
          exact mr_zret F hQ (by first | rfl | exact nZ_bI _) hM ⟨by rw [hE], rfl⟩ (Nat.le_of_ble_eq_true rfl) (Nat.le_of_ble_eq_true rfl) dX1_none_20
    · have hE : bI (k < n ∧ r (60 + d) = -1 ∧ dv k = -1) = nI 0 := bI_f (fun q => absurd q.1 (by omega))
      refine mr_iconst F 0 dX1_none_19 (by decide +kernel) ?_
      exact mr_zret F hQ (by first | rfl | exact nZ_bI _) hM ⟨by rw [hE], rfl⟩ (Nat.le_of_ble_eq_true rfl) (Nat.le_of_ble_eq_true rfl) dX1_none_20
