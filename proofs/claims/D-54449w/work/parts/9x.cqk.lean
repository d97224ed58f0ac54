/-! DISKPACKS: the checks -/
set_option maxHeartbeats 4000000 in
theorem cs_X1_checkNumber (l : Launch) {G : mG} {M0 : mM} {a k : Nat} (h : a < k) (hk : k < 100000) : mMet l yX1_checkNumber (ws_ yX1_checkNumber cX1_checkNumber 2 none) (mRm 6 0 0) [.int (nI a), .int (nI k)] G (pPre (M0)) (pPost (M0) (none)) := by
  refine mMet.of (by decide +kernel) (Nat.le_of_ble_eq_true rfl) fun p e s m args below meth c A Q M hM0 F hnm hQ hM ls hl => ?_
  have hM0 : M0 = M := hM0.symm
  subst hM0
  have hl : lv_has ls 2 [(0, .int (nI a)), (1, .int (nI k))] := hl
  refine lv_iload_n F.1.1 F.1.2.1 dX1_checkNumber_0 rfl (lv_at hl 0 rfl) ?_
  refine lv_if_lt (tgt := 9) F.1.1 F.1.2.1 dX1_checkNumber_1 (by decide) (fun c1 => ?_) (fun c1 => ?_)
  · exact absurd c1 (nI_neg (by omega))
  · refine lv_iload_n F.1.1 F.1.2.1 dX1_checkNumber_4 rfl (lv_at hl 0 rfl) ?_
    refine lv_iload_n F.1.1 F.1.2.1 dX1_checkNumber_5 rfl (lv_at hl 1 rfl) ?_
    refine mr_icmp_ltN F (tgt := 17) dX1_checkNumber_6 (by decide) (by omega) (by omega) (fun c6 => ?_) (fun c6 => ?_)
    · exact mr_vret F hQ hM ⟨rfl, rfl⟩ (Nat.le_of_ble_eq_true rfl) (Nat.le_of_ble_eq_true rfl) dX1_checkNumber_17
    · exact absurd h c6
set_option maxHeartbeats 4000000 in
theorem cx_X1_checkNumber (l : Launch) (htr : l.stackTraces = false) {G : mG} {M0 : mM} {u : Int32} {k : Nat} (hk : k < 100000) (hno : ¬ inN u k) : mNo l yX1_checkNumber (ws_ yX1_checkNumber cX1_checkNumber 2 none) (mRm 106 1 6) [.int u, .int (nI k)] G M0 "java/lang/IndexOutOfBoundsException" := by
  refine mMetX.of (by decide +kernel) (Nat.le_of_ble_eq_true rfl) fun p e s m args below meth c A Q M hM0 F hnm hQ hQX htab hM ls hl => ?_
  have hM0 : M0 = M := hM0.symm
  subst hM0
  have hl : lv_has ls 2 [(0, .int u), (1, .int (nI k))] := hl
  refine lv_iload_n F.1.1 F.1.2.1 dX1_checkNumber_0 rfl (lv_at hl 0 rfl) ?_
  refine lv_if_lt (tgt := 9) F.1.1 F.1.2.1 dX1_checkNumber_1 (by decide) (fun c1 => ?_) (fun c1 => ?_)
  · exact mx_throw0 F hQX htab hM htr (by decide +kernel) q1218 q89 xt_1 xg_1 hl.1 dX1_checkNumber_9 dX1_checkNumber_12 dX1_checkNumber_13 dX1_checkNumber_16 (Nat.le_of_ble_eq_true rfl) (Nat.le_of_ble_eq_true rfl) (Nat.le_of_ble_eq_true rfl) ⟨(Nat.le_of_ble_eq_true rfl), (Nat.le_of_ble_eq_true rfl)⟩ (Nat.le_of_ble_eq_true rfl) (Nat.le_of_ble_eq_true rfl) ⟨rfl, rfl⟩
  · refine lv_iload_n F.1.1 F.1.2.1 dX1_checkNumber_4 rfl (lv_at hl 0 rfl) ?_
    refine lv_iload_n F.1.1 F.1.2.1 dX1_checkNumber_5 rfl (lv_at hl 1 rfl) ?_
    refine lv_icmp_lt (tgt := 17) F.1.1 F.1.2.1 dX1_checkNumber_6 (by decide) (fun c6 => ?_) (fun c6 => ?_)
    · exact absurd c6 (Int32.not_lt.mpr ((nIn_no (by omega) hno).resolve_left c1))
    · exact mx_throw0 F hQX htab hM htr (by decide +kernel) q1218 q89 xt_1 xg_1 hl.1 dX1_checkNumber_9 dX1_checkNumber_12 dX1_checkNumber_13 dX1_checkNumber_16 (Nat.le_of_ble_eq_true rfl) (Nat.le_of_ble_eq_true rfl) (Nat.le_of_ble_eq_true rfl) ⟨(Nat.le_of_ble_eq_true rfl), (Nat.le_of_ble_eq_true rfl)⟩ (Nat.le_of_ble_eq_true rfl) (Nat.le_of_ble_eq_true rfl) ⟨rfl, rfl⟩
set_option maxHeartbeats 4000000 in
theorem cs_X1_checkRange (l : Launch) {G : mG} {M0 : mM} {u lo hi : Int32} (h1 : lo ≤ u) (h2 : u ≤ hi) : mMet l yX1_checkRange (ws_ yX1_checkRange cX1_checkRange 3 none) (mRm 6 0 0) [.int u, .int lo, .int hi] G (pPre (M0)) (pPost (M0) (none)) := by
  refine mMet.of (by decide +kernel) (Nat.le_of_ble_eq_true rfl) fun p e s m args below meth c A Q M hM0 F hnm hQ hM ls hl => ?_
  have hM0 : M0 = M := hM0.symm
  subst hM0
  have hl : lv_has ls 3 [(0, .int u), (1, .int lo), (2, .int hi)] := hl
  refine lv_iload_n F.1.1 F.1.2.1 dX1_checkRange_0 rfl (lv_at hl 0 rfl) ?_
  refine lv_iload_n F.1.1 F.1.2.1 dX1_checkRange_1 rfl (lv_at hl 1 rfl) ?_
  refine lv_icmp_lt (tgt := 10) F.1.1 F.1.2.1 dX1_checkRange_2 (by decide) (fun c2 => ?_) (fun c2 => ?_)
  · exact absurd c2 (Int32.not_lt.mpr h1)
  · refine lv_iload_n F.1.1 F.1.2.1 dX1_checkRange_5 rfl (lv_at hl 0 rfl) ?_
    refine lv_iload_n F.1.1 F.1.2.1 dX1_checkRange_6 rfl (lv_at hl 2 rfl) ?_
    refine lv_icmp_le (tgt := 18) F.1.1 F.1.2.1 dX1_checkRange_7 (by decide) (fun c7 => ?_) (fun c7 => ?_)
    · exact mr_vret F hQ hM ⟨rfl, rfl⟩ (Nat.le_of_ble_eq_true rfl) (Nat.le_of_ble_eq_true rfl) dX1_checkRange_18
    · exact absurd h2 c7
set_option maxHeartbeats 4000000 in
theorem cx_X1_checkRange (l : Launch) (htr : l.stackTraces = false) {G : mG} {M0 : mM} {u lo hi : Int32} (hno : ¬ (lo ≤ u ∧ u ≤ hi)) : mNo l yX1_checkRange (ws_ yX1_checkRange cX1_checkRange 3 none) (mRm 106 1 6) [.int u, .int lo, .int hi] G M0 "java/lang/IllegalArgumentException" := by
  refine mMetX.of (by decide +kernel) (Nat.le_of_ble_eq_true rfl) fun p e s m args below meth c A Q M hM0 F hnm hQ hQX htab hM ls hl => ?_
  have hM0 : M0 = M := hM0.symm
  subst hM0
  have hl : lv_has ls 3 [(0, .int u), (1, .int lo), (2, .int hi)] := hl
  refine lv_iload_n F.1.1 F.1.2.1 dX1_checkRange_0 rfl (lv_at hl 0 rfl) ?_
  refine lv_iload_n F.1.1 F.1.2.1 dX1_checkRange_1 rfl (lv_at hl 1 rfl) ?_
  refine lv_icmp_lt (tgt := 10) F.1.1 F.1.2.1 dX1_checkRange_2 (by decide) (fun c2 => ?_) (fun c2 => ?_)
  · exact mx_throw0 F hQX htab hM htr (by decide +kernel) q1243 q91 xt_2 xg_2 hl.1 dX1_checkRange_10 dX1_checkRange_13 dX1_checkRange_14 dX1_checkRange_17 (Nat.le_of_ble_eq_true rfl) (Nat.le_of_ble_eq_true rfl) (Nat.le_of_ble_eq_true rfl) ⟨(Nat.le_of_ble_eq_true rfl), (Nat.le_of_ble_eq_true rfl)⟩ (Nat.le_of_ble_eq_true rfl) (Nat.le_of_ble_eq_true rfl) ⟨rfl, rfl⟩
  · refine lv_iload_n F.1.1 F.1.2.1 dX1_checkRange_5 rfl (lv_at hl 0 rfl) ?_
    refine lv_iload_n F.1.1 F.1.2.1 dX1_checkRange_6 rfl (lv_at hl 2 rfl) ?_
    refine lv_icmp_le (tgt := 18) F.1.1 F.1.2.1 dX1_checkRange_7 (by decide) (fun c7 => ?_) (fun c7 => ?_)
    · exact absurd ⟨Int32.not_lt.mp c2, c7⟩ hno
    · exact mx_throw0 F hQX htab hM htr (by decide +kernel) q1243 q91 xt_2 xg_2 hl.1 dX1_checkRange_10 dX1_checkRange_13 dX1_checkRange_14 dX1_checkRange_17 (Nat.le_of_ble_eq_true rfl) (Nat.le_of_ble_eq_true rfl) (Nat.le_of_ble_eq_true rfl) ⟨(Nat.le_of_ble_eq_true rfl), (Nat.le_of_ble_eq_true rfl)⟩ (Nat.le_of_ble_eq_true rfl) (Nat.le_of_ble_eq_true rfl) ⟨rfl, rfl⟩
set_option maxHeartbeats 4000000 in
theorem cs_X1_checkState (l : Launch) {G : mG} {M0 : mM} {u : Int32} (h : ¬ u = 0) : mMet l yX1_checkState (ws_ yX1_checkState cX1_checkState 1 none) (mRm 6 0 0) [.int u] G (pPre (M0)) (pPost (M0) (none)) := by
  refine mMet.of (by decide +kernel) (Nat.le_of_ble_eq_true rfl) fun p e s m args below meth c A Q M hM0 F hnm hQ hM ls hl => ?_
  have hM0 : M0 = M := hM0.symm
  subst hM0
  have hl : lv_has ls 1 [(0, .int u)] := hl
  refine lv_iload_n F.1.1 F.1.2.1 dX1_checkState_0 rfl (lv_at hl 0 rfl) ?_
  refine lv_if_ne (tgt := 12) F.1.1 F.1.2.1 dX1_checkState_1 (by decide) (fun c1 => ?_) (fun c1 => ?_)
  · exact mr_vret F hQ hM ⟨rfl, rfl⟩ (Nat.le_of_ble_eq_true rfl) (Nat.le_of_ble_eq_true rfl) dX1_checkState_12
  · exact absurd c1 h
set_option maxHeartbeats 4000000 in
theorem cx_X1_checkState (l : Launch) (htr : l.stackTraces = false) {G : mG} {M0 : mM} {u : Int32} (h : u = 0) : mNo l yX1_checkState (ws_ yX1_checkState cX1_checkState 1 none) (mRm 106 1 6) [.int u] G M0 "java/lang/IllegalStateException" := by
  refine mMetX.of (by decide +kernel) (Nat.le_of_ble_eq_true rfl) fun p e s m args below meth c A Q M hM0 F hnm hQ hQX htab hM ls hl => ?_
  have hM0 : M0 = M := hM0.symm
  subst hM0
  have hl : lv_has ls 1 [(0, .int u)] := hl
  refine lv_iload_n F.1.1 F.1.2.1 dX1_checkState_0 rfl (lv_at hl 0 rfl) ?_
  refine lv_if_ne (tgt := 12) F.1.1 F.1.2.1 dX1_checkState_1 (by decide) (fun c1 => ?_) (fun c1 => ?_)
  · exact absurd h c1
  · exact mx_throw0 F hQX htab hM htr (by decide +kernel) q1316 q100 xt_3 xg_3 hl.1 dX1_checkState_4 dX1_checkState_7 dX1_checkState_8 dX1_checkState_11 (Nat.le_of_ble_eq_true rfl) (Nat.le_of_ble_eq_true rfl) (Nat.le_of_ble_eq_true rfl) ⟨(Nat.le_of_ble_eq_true rfl), (Nat.le_of_ble_eq_true rfl)⟩ (Nat.le_of_ble_eq_true rfl) (Nat.le_of_ble_eq_true rfl) ⟨rfl, rfl⟩
