/-! THE SYSTEM: what a drive can read -/
set_option maxHeartbeats 4000000 in
theorem cs_X2_readableIn (l : Launch) {G : mG} {ad : Nat → Nat} {n : Nat} {r : Nat → Int32} {f : Nat → UInt32} {dv : Nat → Int32} {M0 : mM} {d k t : Nat} (hd : sAd n ad) (hn : n ≤ 6) (hI : mInv r f) (ht : r 88 = nI t) (ht8 : t ≤ 8) (h1 : d < 4) (h3 : k < n) : mMet l yX2_readableIn (ws_ yX2_readableIn cX2_readableIn 6 (some .int)) (mRm 7 0 0) [.ref (ad 0), .int (nI d), .int (nI k)] G (pPre (sM G ad n r f dv M0)) (pPost (sM G ad n r f dv M0) (some (.int (mRi r f d k t 3 0)))) := by
  refine mMet.of (by decide +kernel) (Nat.le_of_ble_eq_true rfl) fun p e s m args below meth c A Q M hM0 F hnm hQ hM ls hl => ?_
  have hM0 : M = sM G ad n r f dv M0 := hM0
  subst hM0
  have hl : lv_has ls 6 [(0, .ref (ad 0)), (1, .int (nI d)), (2, .int (nI k))] := hl
  refine mr_iconst F 0 dX2_readableIn_0 (by decide +kernel) ?_
  refine lv_istore_n (lv' := [(3, _), (0, _), (1, _), (2, _)]) F.1.1 F.1.2.1 dX2_readableIn_1 rfl hl (by decide) rfl (fun ls hl => ?_)
  refine mr_iconst F 0 dX2_readableIn_2 (by decide +kernel) ?_
  refine lv_istore (lv' := [(4, _), (3, _), (0, _), (1, _), (2, _)]) F.1.1 F.1.2.1 dX2_readableIn_3 hl (by decide) rfl (fun ls hl => ?_)
  have lo : ∀ j i : Nat, i + j = 3 → ∀ (H : Heap) (locs : List Loc), mWd G A s.heap (sM G ad n r f dv M0) H locs → ∀ ls : Array Slot, lv_has ls 6 [(4, .int (nI i)), (3, .int (mRi r f d k t i 0)), (0, .ref (ad 0)), (1, .int (nI d)), (2, .int (nI k))] → W p l e (mRm 7 0 0) s m args below meth c H locs 0 0 Q (F0 m 5 ls []) := by
    intro j
    induction j with
    | zero =>
      intro i hi H locs hM ls hl
      obtain rfl : i = 3 := by omega
      refine lv_iload F.1.1 F.1.2.1 dX2_readableIn_5 (lv_at hl 0 rfl) ?_
      refine mr_iconst F 3 dX2_readableIn_7 (by decide +kernel) ?_
      refine mr_icmp_geN F (tgt := 55) dX2_readableIn_8 (by decide) (by omega) (by omega) (fun c8 => ?_) (fun c8 => ?_)
      · refine lv_iload_n F.1.1 F.1.2.1 dX2_readableIn_55 rfl (lv_at hl 1 rfl) ?_
        exact mr_iret F hQ hM ⟨rfl, rfl⟩ (Nat.le_of_ble_eq_true rfl) (Nat.le_of_ble_eq_true rfl) dX2_readableIn_56
      · exact absurd c8 (by omega)
    | succ j ih =>
      intro i hi H locs hM ls hl
      refine lv_iload F.1.1 F.1.2.1 dX2_readableIn_5 (lv_at hl 0 rfl) ?_
      refine mr_iconst F 3 dX2_readableIn_7 (by decide +kernel) ?_
      refine mr_icmp_geN F (tgt := 55) dX2_readableIn_8 (by decide) (by omega) (by omega) (fun c8 => ?_) (fun c8 => ?_)
      · exact absurd c8 (by omega)
      · refine mr_iconst F 0 dX2_readableIn_11 (by decide +kernel) ?_
        refine lv_istore (lv' := [(5, _), (4, _), (3, _), (0, _), (1, _), (2, _)]) F.1.1 F.1.2.1 dX2_readableIn_12 hl (by decide) rfl (fun ls hl => ?_)
        have li : ∀ j2 q0 : Nat, q0 + j2 = 40 → ∀ (H : Heap) (locs : List Loc), mWd G A s.heap (sM G ad n r f dv M0) H locs → ∀ ls : Array Slot, lv_has ls 6 [(5, .int (nI q0)), (3, .int (mRi r f d k t i q0)), (4, .int (nI i)), (0, .ref (ad 0)), (1, .int (nI d)), (2, .int (nI k))] → W p l e (mRm 7 0 0) s m args below meth c H locs 0 0 Q (F0 m 14 ls []) := by
          intro j2
          induction j2 with
          | zero =>
            intro q0 hq H locs hM ls hl
            obtain rfl : q0 = 40 := by omega
            refine lv_iload F.1.1 F.1.2.1 dX2_readableIn_14 (lv_at hl 0 rfl) ?_
            refine mr_bipush F 40 dX2_readableIn_16 (by decide +kernel) ?_
            refine mr_icmp_geN F (tgt := 49) dX2_readableIn_18 (by decide) (by omega) (by omega) (fun c18 => ?_) (fun c18 => ?_)
            · refine lv_iinc (lv' := [(4, _), (5, _), (3, _), (0, _), (1, _), (2, _)]) F.1.1 F.1.2.1 dX2_readableIn_49 hl (k := 2) rfl (nK_add _ 1) (by decide) rfl (fun ls hl => ?_)
              refine lv_goto (tgt := 5) F.1.1 F.1.2.1 dX2_readableIn_52 (by decide) ?_
              exact ih (i + 1) (by omega) _ _ hM _ (by rw [mRi_next]; exact lv_sub hl [0, 2, 3, 4, 5] rfl)
            · exact absurd c18 (by omega)
          | succ j2 ih2 =>
            intro q0 hq H locs hM ls hl
            refine lv_iload F.1.1 F.1.2.1 dX2_readableIn_14 (lv_at hl 0 rfl) ?_
            refine mr_bipush F 40 dX2_readableIn_16 (by decide +kernel) ?_
            refine mr_icmp_geN F (tgt := 49) dX2_readableIn_18 (by decide) (by omega) (by omega) (fun c18 => ?_) (fun c18 => ?_)
            · exact absurd c18 (by omega)
            · refine lv_iload_n F.1.1 F.1.2.1 dX2_readableIn_21 rfl (lv_at hl 1 rfl) ?_
              refine lv_aload_n F.1.1 F.1.2.1 dX2_readableIn_22 rfl (lv_at hl 3 rfl) ?_
              refine lv_iload_n F.1.1 F.1.2.1 dX2_readableIn_23 rfl (lv_at hl 4 rfl) ?_
              refine lv_iload F.1.1 F.1.2.1 dX2_readableIn_24 (lv_at hl 2 rfl) ?_
              refine lv_iload_n F.1.1 F.1.2.1 dX2_readableIn_26 rfl (lv_at hl 5 rfl) ?_
              refine lv_iload F.1.1 F.1.2.1 dX2_readableIn_27 (lv_at hl 0 rfl) ?_
              refine mc_Va (As := [_, _, _, _]) F hM (cs_X2_retries_2 l hd hn (by assumption) (by assumption) (by omega) (by omega) (by omega) (by omega) (by omega)) (cwV 4 F.1.2.2.2.2 (lw_V q950 q951 q952 q71 q953) rfl rfl rfl (by decide +kernel) (mRm_ok (by decide) (by decide))) (sM_0 hd) rfl rfl rfl rfl hl.1 rfl (Nat.le_of_ble_eq_true rfl) dX2_readableIn_29 ⟨Nat.le_of_ble_eq_true rfl, Nat.le_of_ble_eq_true rfl⟩ (fun H locs hM => ?_)
              refine lv_iconst (v := -1) F.1.1 F.1.2.1 dX2_readableIn_32 (by decide +kernel) ?_
              refine lv_icmp_eq (tgt := 40) F.1.1 F.1.2.1 dX2_readableIn_33 (by decide) (fun c33 => ?_) (fun c33 => ?_)
              · have hw : mRi r f d k t i (q0 + 1) = mRi r f d k t i q0 + nI 0 := by
                  rw [mRi_step, if_pos c33]
                refine mr_iconst F 0 dX2_readableIn_40 (by decide +kernel) ?_
                refine lv_iadd F.1.1 F.1.2.1 dX2_readableIn_41 ?_
                refine lv_istore_n (lv' := [(3, _), (5, _), (4, _), (0, _), (1, _), (2, _)]) F.1.1 F.1.2.1 dX2_readableIn_42 rfl hl (by decide) rfl (fun ls hl => ?_)
                refine lv_iinc (lv' := [(5, _), (3, _), (4, _), (0, _), (1, _), (2, _)]) F.1.1 F.1.2.1 dX2_readableIn_43 hl (k := 1) rfl (nK_add _ 1) (by decide) rfl (fun ls hl => ?_)
                refine lv_goto (tgt := 14) F.1.1 F.1.2.1 dX2_readableIn_46 (by decide) ?_
                exact ih2 (q0 + 1) (by omega) _ _ hM _ (by rw [hw]; exact lv_sub hl [0, 1, 2, 3, 4, 5] rfl)
              · have hw : mRi r f d k t i (q0 + 1) = mRi r f d k t i q0 + nI 1 := by
                  rw [mRi_step, if_neg c33]
                refine mr_iconst F 1 dX2_readableIn_36 (by decide +kernel) ?_
                refine lv_goto (tgt := 41) F.1.1 F.1.2.1 dX2_readableIn_37 (by decide) ?_
                refine lv_iadd F.1.1 F.1.2.1 dX2_readableIn_41 ?_
                refine lv_istore_n (lv' := [(3, _), (5, _), (4, _), (0, _), (1, _), (2, _)]) F.1.1 F.1.2.1 dX2_readableIn_42 rfl hl (by decide) rfl (fun ls hl => ?_)
                refine lv_iinc (lv' := [(5, _), (3, _), (4, _), (0, _), (1, _), (2, _)]) F.1.1 F.1.2.1 dX2_readableIn_43 hl (k := 1) rfl (nK_add _ 1) (by decide) rfl (fun ls hl => ?_)
                refine lv_goto (tgt := 14) F.1.1 F.1.2.1 dX2_readableIn_46 (by decide) ?_
                exact ih2 (q0 + 1) (by omega) _ _ hM _ (by rw [hw]; exact lv_sub hl [0, 1, 2, 3, 4, 5] rfl)
        exact li 40 0 rfl _ _ hM _ (lv_sub hl [0, 2, 1, 3, 4, 5] rfl)
  exact lo 3 0 rfl _ _ hM _ (lv_sub hl [0, 1, 2, 3, 4] rfl)
