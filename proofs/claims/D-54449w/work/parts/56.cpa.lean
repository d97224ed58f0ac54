/-! THE SYSTEM: leaves -/
set_option maxHeartbeats 4000000 in
theorem cs_X1_apart (l : Launch) {G : mG} {M0 : mM} {x y : Int32} : mMet l yX1_apart (ws_ yX1_apart cX1_apart 2 (some .int)) (mRm 1 0 0) [.int x, .int y] G (pPre (M0)) (pPost (M0) (some (.int (mAp x y)))) := by
  refine mMet.of (by decide +kernel) (Nat.le_of_ble_eq_true rfl) fun p e s m args below meth c A Q M hM0 F hnm hQ hM ls hl => ?_
  have hM0 : M0 = M := hM0.symm
  subst hM0
  have hl : lv_has ls 2 [(0, .int x), (1, .int y)] := hl
  refine lv_iload_n F.1.1 F.1.2.1 dX1_apart_0 rfl (lv_at hl 0 rfl) ?_
  refine lv_iload_n F.1.1 F.1.2.1 dX1_apart_1 rfl (lv_at hl 1 rfl) ?_
  refine lv_icmp_ge (tgt := 11) F.1.1 F.1.2.1 dX1_apart_2 (by decide) (fun c2 => ?_) (fun c2 => ?_)
  · have hE : mAp x y = x - y := if_neg (Int32.not_lt.mpr c2)
    refine lv_iload_n F.1.1 F.1.2.1 dX1_apart_11 rfl (lv_at hl 0 rfl) ?_
    refine lv_iload_n F.1.1 F.1.2.1 dX1_apart_12 rfl (lv_at hl 1 rfl) ?_
    refine lv_isub F.1.1 F.1.2.1 dX1_apart_13 ?_
    exact mr_iret F hQ hM ⟨by rw [hE], rfl⟩ (Nat.le_of_ble_eq_true rfl) (Nat.le_of_ble_eq_true rfl) dX1_apart_14
  · have hE : mAp x y = y - x := if_pos (Int32.not_le.mp c2)
    refine lv_iload_n F.1.1 F.1.2.1 dX1_apart_5 rfl (lv_at hl 1 rfl) ?_
    refine lv_iload_n F.1.1 F.1.2.1 dX1_apart_6 rfl (lv_at hl 0 rfl) ?_
    refine lv_isub F.1.1 F.1.2.1 dX1_apart_7 ?_
    refine lv_goto (tgt := 14) F.1.1 F.1.2.1 dX1_apart_8 (by decide) ?_
    exact mr_iret F hQ hM ⟨by rw [hE], rfl⟩ (Nat.le_of_ble_eq_true rfl) (Nat.le_of_ble_eq_true rfl) dX1_apart_14
set_option maxHeartbeats 4000000 in
theorem cs_X9_isEmpty (l : Launch) {G : mG} {ad : Nat → Nat} {n : Nat} {r : Nat → Int32} {f : Nat → UInt32} {dv : Nat → Int32} {M0 : mM} {k j : Nat} (hd : sAd n ad) (hn : n ≤ 6) (h1 : k < 3 * n) (h2 : j < 40) : mMet l yX9_isEmpty (ws_ yX9_isEmpty cX9_isEmpty 2 (some .boolean)) (mRm 1 0 0) [.ref (ad (80 + k)), .int (nI j)] G (pPre (sM G ad n r f dv M0)) (pPost (sM G ad n r f dv M0) (some (.int (bI (r (126 + (40 * k + j)) = -1))))) := by
  refine mMet.of (by decide +kernel) (Nat.le_of_ble_eq_true rfl) fun p e s m args below meth c A Q M hM0 F hnm hQ hM ls hl => ?_
  have hM0 : M = sM G ad n r f dv M0 := hM0
  subst hM0
  have hl : lv_has ls 2 [(0, .ref (ad (80 + k))), (1, .int (nI j))] := hl
  refine lv_aload_n F.1.1 F.1.2.1 dX9_isEmpty_0 rfl (lv_at hl 0 rfl) ?_
  refine cg7 F hM (sM_S hd hn (by omega)) 0 (by decide) q1102 (fun x h => h) rfl dX9_isEmpty_1 ?_
  refine lv_iload_n F.1.1 F.1.2.1 dX9_isEmpty_4 rfl (lv_at hl 1 rfl) ?_
  refine sr_ldV F hd hn hM (j0 := 126 + (40 * k + j)) (by omega) (by omega) (by omega) dX9_isEmpty_5 ?_
  refine lv_iconst (v := -1) F.1.1 F.1.2.1 dX9_isEmpty_6 (by decide +kernel) ?_
  refine lv_icmp_ne (tgt := 14) F.1.1 F.1.2.1 dX9_isEmpty_7 (by decide) (fun c7 => ?_) (fun c7 => ?_)
  · have hE : bI (r (126 + (40 * k + j)) = -1) = nI 0 := bI_f c7
    refine mr_iconst F 0 dX9_isEmpty_14 (by decide +kernel) ?_
    exact mr_zret F hQ (by first | rfl | exact nZ_bI _) hM ⟨by rw [hE], rfl⟩ (Nat.le_of_ble_eq_true rfl) (Nat.le_of_ble_eq_true rfl) dX9_isEmpty_15
  · have hE : bI (r (126 + (40 * k + j)) = -1) = nI 1 := bI_t c7
    refine mr_iconst F 1 dX9_isEmpty_10 (by decide +kernel) ?_
    refine lv_goto (tgt := 15) F.1.1 F.1.2.1 dX9_isEmpty_11 (by decide) ?_
    exact mr_zret F hQ (by first | rfl | exact nZ_bI _) hM ⟨by rw [hE], rfl⟩ (Nat.le_of_ble_eq_true rfl) (Nat.le_of_ble_eq_true rfl) dX9_isEmpty_15
set_option maxHeartbeats 4000000 in
theorem cs_X9_halve (l : Launch) {G : mG} {ad : Nat → Nat} {n : Nat} {r : Nat → Int32} {f : Nat → UInt32} {dv : Nat → Int32} {M0 : mM} {k j : Nat} (hd : sAd n ad) (hn : n ≤ 6) (h1 : k < 3 * n) (h2 : j < 40) (hS : f (40 * k + j) ∈ fsL) : mMet l yX9_halve (ws_ yX9_halve cX9_halve 2 none) (mRm 1 0 0) [.ref (ad (80 + k)), .int (nI j)] G (pPre (sM G ad n r f dv M0)) (pPost (sM G ad n r (va_up f (40 * k + j) (FP.fdiv (f (40 * k + j)) FP.fconst2)) dv M0) (none)) := by
  refine mMet.of (by decide +kernel) (Nat.le_of_ble_eq_true rfl) fun p e s m args below meth c A Q M hM0 F hnm hQ hM ls hl => ?_
  have hM0 : M = sM G ad n r f dv M0 := hM0
  subst hM0
  have hl : lv_has ls 2 [(0, .ref (ad (80 + k))), (1, .int (nI j))] := hl
  refine lv_aload_n F.1.1 F.1.2.1 dX9_halve_0 rfl (lv_at hl 0 rfl) ?_
  refine cg7 F hM (sM_S hd hn (by omega)) 2 (by decide) q1108 (fun x h => h) rfl dX9_halve_1 ?_
  refine lv_iload_n F.1.1 F.1.2.1 dX9_halve_4 rfl (lv_at hl 1 rfl) ?_
  refine lv_dup2_11 F.1.1 F.1.2.1 dX9_halve_5 rfl rfl ?_
  refine sr_ldF F hd hn hM (j0 := 40 * k + j) (by omega) (by omega) (by omega) dX9_halve_6 ?_
  refine lv_fconst2 F.1.1 F.1.2.1 dX9_halve_7 ?_
  refine lv_fdiv F.1.1 F.1.2.1 dX9_halve_8 (fs_halfN' hS) ?_
  refine sr_stF F hd hn hM (j0 := 40 * k + j) (by omega) (by omega) (by omega) dX9_halve_9 (fun H locs hM => ?_)
  exact mr_vret F hQ hM ⟨rfl, rfl⟩ (Nat.le_of_ble_eq_true rfl) (Nat.le_of_ble_eq_true rfl) dX9_halve_10
