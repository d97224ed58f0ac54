/-! THE SYSTEM: retries by the gap -/
set_option maxHeartbeats 4000000 in
theorem cs_X2_retriesByGap (l : Launch) {G : mG} {ad : Nat → Nat} {n : Nat} {r : Nat → Int32} {f : Nat → UInt32} {dv : Nat → Int32} {M0 : mM} {d h k q0 t : Nat} (hd : sAd n ad) (hn : n ≤ 6) (hI : mInv r f) (hp : r (60 + d) = nI k) (hc : r (52 + d) = nI q0) (ht : r 88 = nI t) (ht8 : t ≤ 8) (h1 : d < 4) (h2 : h < 3) (h3 : k < n) (h4 : q0 < 40) : mMet l yX2_retriesByGap (ws_ yX2_retriesByGap cX2_retriesByGap 10 (some .int)) (mRm 6 0 0) [.ref (ad 0), .int (nI d), .int (nI h)] G (pPre (sM G ad n r f dv M0)) (pPost (sM G ad n r f dv M0) (some (.int (mRt r f d h k q0 t)))) := by
  refine mMet.of (by decide +kernel) (Nat.le_of_ble_eq_true rfl) fun p e s m args below meth c A Q M hM0 F hnm hQ hM ls hl => ?_
  have hM0 : M = sM G ad n r f dv M0 := hM0
  subst hM0
  have hl : lv_has ls 10 [(0, .ref (ad 0)), (1, .int (nI d)), (2, .int (nI h))] := hl
  have hk6 : k < 6 := by omega
  obtain ⟨z, hz8, hz, hzp, hzn⟩ := gp_size hI h1 h2 hk6 h4 (r := r) (d := d) (h := h) (k := k) (q0 := q0)
  refine lv_aload_n F.1.1 F.1.2.1 dX2_retriesByGap_0 rfl (lv_at hl 0 rfl) ?_
  refine lv_iload_n F.1.1 F.1.2.1 dX2_retriesByGap_1 rfl (lv_at hl 1 rfl) ?_
  refine lv_iload_n F.1.1 F.1.2.1 dX2_retriesByGap_2 rfl (lv_at hl 2 rfl) ?_
  refine mc_Va (As := [_, _]) F hM (cs_X2_surface l hd hn (by assumption) (by omega) (by omega) (by omega)) (cwV 2 F.1.2.2.2.2 (lw_V q893 q894 q895 q71 q896) rfl rfl rfl (by decide +kernel) (mRm_ok (by decide) (by decide))) (sM_0 hd) rfl rfl rfl rfl hl.1 rfl (Nat.le_of_ble_eq_true rfl) dX2_retriesByGap_3 ⟨Nat.le_of_ble_eq_true rfl, Nat.le_of_ble_eq_true rfl⟩ (fun H locs hM => ?_)
  refine lv_astore_n (lv' := [(3, _), (0, _), (1, _), (2, _)]) F.1.1 F.1.2.1 dX2_retriesByGap_6 rfl hl (by decide) rfl (fun ls hl => ?_)
  refine lv_aload_n F.1.1 F.1.2.1 dX2_retriesByGap_7 rfl (lv_at hl 1 rfl) ?_
  refine cg1 F hM (sM_0 hd) 0 (by decide) q306 (fun x h => h) rfl dX2_retriesByGap_8 ?_
  refine lv_iload_n F.1.1 F.1.2.1 dX2_retriesByGap_11 rfl (lv_at hl 2 rfl) ?_
  refine sr_ld1 F hd hM (by omega) dX2_retriesByGap_12 ?_
  refine cg2 F hM (sM_D hd (by omega)) 4 (by decide) q283 (fun x h => h) (congrArg (fun z => some (Value.int z)) hc) dX2_retriesByGap_13 ?_
  refine lv_istore (lv' := [(4, _), (3, _), (0, _), (1, _), (2, _)]) F.1.1 F.1.2.1 dX2_retriesByGap_16 hl (by decide) rfl (fun ls hl => ?_)
  refine lv_aload_n F.1.1 F.1.2.1 dX2_retriesByGap_18 rfl (lv_at hl 1 rfl) ?_
  refine lv_iload F.1.1 F.1.2.1 dX2_retriesByGap_19 (lv_at hl 0 rfl) ?_
  refine mc_Va (As := [_]) F hM (cs_X9_isEmpty l hd hn (by omega) (by omega)) (cwV 1 F.1.2.2.2.2 (lw_V q1624 q914 q915 q95 q916) rfl rfl rfl (by decide +kernel) (mRm_ok (by decide) (by decide))) (sM_S hd hn (by omega)) rfl rfl rfl rfl hl.1 rfl (Nat.le_of_ble_eq_true rfl) dX2_retriesByGap_21 ⟨Nat.le_of_ble_eq_true rfl, Nat.le_of_ble_eq_true rfl⟩ (fun H locs hM => ?_)
  refine lv_if_eq (tgt := 29) F.1.1 F.1.2.1 dX2_retriesByGap_24 (by decide) (fun c24 => ?_) (fun c24 => ?_)
  · have hv : ¬ r (126 + (40 * (3 * k + h) + q0)) = -1 := bI_0 c24
    refine lv_aload_n F.1.1 F.1.2.1 dX2_retriesByGap_29 rfl (lv_at hl 2 rfl) ?_
    refine cg1 F hM (sM_0 hd) 0 (by decide) q306 (fun x h => h) rfl dX2_retriesByGap_30 ?_
    refine lv_iload_n F.1.1 F.1.2.1 dX2_retriesByGap_33 rfl (lv_at hl 3 rfl) ?_
    refine sr_ld1 F hd hM (by omega) dX2_retriesByGap_34 ?_
    refine lv_iload_n F.1.1 F.1.2.1 dX2_retriesByGap_35 rfl (lv_at hl 4 rfl) ?_
    refine mc_Va (As := [_]) F hM (cs_X3_dataHead l hd hn (by omega) (by omega)) (cwV 1 F.1.2.2.2.2 (lw_V q881 q882 q883 q75 q884) rfl rfl rfl (by decide +kernel) (mRm_ok (by decide) (by decide))) (sM_D hd (by omega)) rfl rfl rfl rfl hl.1 rfl (Nat.le_of_ble_eq_true rfl) dX2_retriesByGap_36 ⟨Nat.le_of_ble_eq_true rfl, Nat.le_of_ble_eq_true rfl⟩ (fun H locs hM => ?_)
    refine lv_aload_n F.1.1 F.1.2.1 dX2_retriesByGap_39 rfl (lv_at hl 1 rfl) ?_
    refine cg7 F hM (sM_S hd hn (by omega)) 2 (by decide) q1109 (fun x h => h) rfl dX2_retriesByGap_40 ?_
    refine lv_iload F.1.1 F.1.2.1 dX2_retriesByGap_43 (lv_at hl 0 rfl) ?_
    refine sr_ldF F hd hn hM (j0 := 40 * (3 * k + h) + q0) (by omega) (by omega) (by omega) dX2_retriesByGap_45 ?_
    refine mc_Va (As := [_]) F hM (cs_X6_weakened l hd hn (by omega) (by omega) (fs_halfN' (sg_S hI h2 hk6 h4))) (cwV 1 F.1.2.2.2.2 (lw_V q889 q890 q891 q78 q892) rfl rfl rfl (by decide +kernel) (mRm_ok (by decide) (by decide))) (sM_HD hd (by omega) (by omega)) rfl rfl rfl rfl hl.1 rfl (Nat.le_of_ble_eq_true rfl) dX2_retriesByGap_46 ⟨Nat.le_of_ble_eq_true rfl, Nat.le_of_ble_eq_true rfl⟩ (fun H locs hM => ?_)
    refine lv_fstore (lv' := [(5, _), (4, _), (3, _), (0, _), (1, _), (2, _)]) F.1.1 F.1.2.1 dX2_retriesByGap_49 hl (by decide) rfl (fun ls hl => ?_)
    refine lv_iconst (v := -1) F.1.1 F.1.2.1 dX2_retriesByGap_51 (by decide +kernel) ?_
    refine lv_istore (lv' := [(6, _), (5, _), (4, _), (3, _), (0, _), (1, _), (2, _)]) F.1.1 F.1.2.1 dX2_retriesByGap_52 hl (by decide) rfl (fun ls hl => ?_)
    have k84 : ∀ (x : Int32), x + nI 1 = nI (gpW (gpY r f d h k q0) 20 0) → ∀ (H : Heap) (locs : List Loc), mWd G A s.heap (sM G ad n r f dv M0) H locs → ∀ ls : Array Slot, lv_has ls 10 [(6, .int x), (5, .float (gpY r f d h k q0)), (4, .int (nI q0)), (3, .ref (ad (80 + (3 * k + h)))), (0, .ref (ad 0)), (1, .int (nI d)), (2, .int (nI h))] → W p l e (mRm 6 0 0) s m args below meth c H locs 0 0 Q (F0 m 84 ls []) := by
      intro x hx H locs hM ls hl
      refine lv_aload_n F.1.1 F.1.2.1 dX2_retriesByGap_84 rfl (lv_at hl 3 rfl) ?_
      refine cg7 F hM (sM_S hd hn (by omega)) 1 (by decide) q1106 (fun x h => h) rfl dX2_retriesByGap_85 ?_
      refine lv_iload F.1.1 F.1.2.1 dX2_retriesByGap_88 (lv_at hl 2 rfl) ?_
      refine sr_ldO F hd hn hM (j0 := 846 + (40 * (3 * k + h) + q0)) (by omega) (by omega) (by omega) dX2_retriesByGap_90 ?_
      refine lv_aload_n F.1.1 F.1.2.1 dX2_retriesByGap_91 rfl (lv_at hl 4 rfl) ?_
      refine lv_iload_n F.1.1 F.1.2.1 dX2_retriesByGap_92 rfl (lv_at hl 5 rfl) ?_
      refine lv_iload_n F.1.1 F.1.2.1 dX2_retriesByGap_93 rfl (lv_at hl 6 rfl) ?_
      refine mc_Va (As := [_, _]) F hM (cs_X2_place l hd hn (by assumption) (by assumption) (by omega) (by omega) (by omega) (by omega)) (cwV 2 F.1.2.2.2.2 (lw_V q897 q898 q899 q71 q900) rfl rfl rfl (by decide +kernel) (mRm_ok (by decide) (by decide))) (sM_0 hd) rfl rfl rfl rfl hl.1 rfl (Nat.le_of_ble_eq_true rfl) dX2_retriesByGap_94 ⟨Nat.le_of_ble_eq_true rfl, Nat.le_of_ble_eq_true rfl⟩ (fun H locs hM => ?_)
      refine lv_isub F.1.1 F.1.2.1 dX2_retriesByGap_97 ?_
      refine lv_istore (lv' := [(7, _), (6, _), (5, _), (4, _), (3, _), (0, _), (1, _), (2, _)]) F.1.1 F.1.2.1 dX2_retriesByGap_98 hl (by decide) rfl (fun ls hl => ?_)
      refine lv_iload F.1.1 F.1.2.1 dX2_retriesByGap_100 (lv_at hl 0 rfl) ?_
      refine lv_if_ge (tgt := 111) F.1.1 F.1.2.1 dX2_retriesByGap_102 (by decide) (fun c102 => ?_) (fun c102 => ?_)
      · refine lv_iload F.1.1 F.1.2.1 dX2_retriesByGap_111 (lv_at hl 0 rfl) ?_
        rw [show r (846 + (40 * (3 * k + h) + q0)) - mPl r d h k q0 = nI z from hzp c102]
        refine lv_istore (lv' := [(8, _), (7, _), (6, _), (5, _), (4, _), (3, _), (0, _), (1, _), (2, _)]) F.1.1 F.1.2.1 dX2_retriesByGap_113 hl (by decide) rfl (fun ls hl => ?_)
        refine mr_iconst F 0 dX2_retriesByGap_115 (by decide +kernel) ?_
        refine lv_istore (lv' := [(9, _), (8, _), (7, _), (6, _), (5, _), (4, _), (3, _), (0, _), (1, _), (2, _)]) F.1.1 F.1.2.1 dX2_retriesByGap_116 hl (by decide) rfl (fun ls hl => ?_)
        have lp2 : ∀ j i : Nat, i + j = t + 1 → (∀ a, a < i → ¬ gpD z (5 * a) < (gpW (gpY r f d h k q0) 20 0)) → ∀ (H : Heap) (locs : List Loc), mWd G A s.heap (sM G ad n r f dv M0) H locs → ∀ ls : Array Slot, lv_has ls 10 [(9, .int (nI i)), (8, .int (nI z)), (7, .int (gpG r d h k q0)), (6, .int x), (0, .ref (ad 0))] → W p l e (mRm 6 0 0) s m args below meth c H locs 0 0 Q (F0 m 118 ls []) := by
          intro j
          induction j with
          | zero =>
            intro i hi hno H locs hM ls hl
            refine lv_iload F.1.1 F.1.2.1 dX2_retriesByGap_118 (lv_at hl 0 rfl) ?_
            refine lv_aload_n F.1.1 F.1.2.1 dX2_retriesByGap_120 rfl (lv_at hl 4 rfl) ?_
            refine cg1 F hM (sM_0 hd) 4 (by decide) q314 (fun x h => h) (congrArg (fun z => some (Value.int z)) ht) dX2_retriesByGap_121 ?_
            refine mr_icmp_gtN F (tgt := 175) dX2_retriesByGap_124 (by decide) (by omega) (by omega) (fun c124 => ?_) (fun c124 => ?_)
            · refine lv_iconst (v := -1) F.1.1 F.1.2.1 dX2_retriesByGap_175 (by decide +kernel) ?_
              exact mr_iret F hQ hM ⟨by rw [gp_miss hI ht8 h1 h2 hk6 h4 hv hz (fun a ha => hno a (by omega))], rfl⟩ (Nat.le_of_ble_eq_true rfl) (Nat.le_of_ble_eq_true rfl) dX2_retriesByGap_176
            · exact absurd c124 (by omega)
          | succ j ih =>
            intro i hi hno H locs hM ls hl
            refine lv_iload F.1.1 F.1.2.1 dX2_retriesByGap_118 (lv_at hl 0 rfl) ?_
            refine lv_aload_n F.1.1 F.1.2.1 dX2_retriesByGap_120 rfl (lv_at hl 4 rfl) ?_
            refine cg1 F hM (sM_0 hd) 4 (by decide) q314 (fun x h => h) (congrArg (fun z => some (Value.int z)) ht) dX2_retriesByGap_121 ?_
            refine mr_icmp_gtN F (tgt := 175) dX2_retriesByGap_124 (by decide) (by omega) (by omega) (fun c124 => ?_) (fun c124 => ?_)
            · exact absurd c124 (by omega)
            · refine lv_iload F.1.1 F.1.2.1 dX2_retriesByGap_127 (lv_at hl 1 rfl) ?_
              refine mr_iconst F 5 dX2_retriesByGap_129 (by decide +kernel) ?_
              refine lv_iload F.1.1 F.1.2.1 dX2_retriesByGap_130 (lv_at hl 0 rfl) ?_
              refine mr_imulN F dX2_retriesByGap_132 ?_
              refine mc_SNa (As := [_, _]) F hM (cs_X1_apart l ) ⟨va_cnB 2 F.1.2.2.2.2 (lw_meth q919) rfl rfl rfl (mN_w F q1626 rfl) (F.1.2.2.2.2 _ q70) (by decide +kernel) (mRm_ok (by decide) (by decide)), F.1.2.2.2.2 _ q918, trivial⟩ rfl rfl hl.1 rfl (Nat.le_of_ble_eq_true rfl) dX2_retriesByGap_133 ⟨Nat.le_of_ble_eq_true rfl, Nat.le_of_ble_eq_true rfl⟩ (fun H locs hM => ?_)
              rw [mAp_nat (by omega) (by omega)]
              have hcm := gp_cmp (D := gpD z (5 * i)) hx (gpW_all 20 0 (fun j h => absurd h (Nat.not_lt_zero _))).2.1 (by unfold gpD; omega)
              refine lv_iload F.1.1 F.1.2.1 dX2_retriesByGap_136 (lv_at hl 3 rfl) ?_
              refine lv_icmp_gt (tgt := 169) F.1.1 F.1.2.1 dX2_retriesByGap_138 (by decide) (fun c138 => ?_) (fun c138 => ?_)
              · refine lv_iinc (lv' := [(9, _), (8, _), (7, _), (6, _), (0, _)]) F.1.1 F.1.2.1 dX2_retriesByGap_169 hl (k := 0) rfl (nK_add _ 1) (by decide) rfl (fun ls hl => ?_)
                refine lv_goto (tgt := 118) F.1.1 F.1.2.1 dX2_retriesByGap_172 (by decide) ?_
                exact ih (i + 1) (by omega) (fun a ha => by
                    rcases Nat.lt_or_ge a i with q | q
                    · exact hno a q
                    · rw [show a = i by omega]; exact fun q => absurd c138 (Int32.not_lt.mpr (hcm.mpr q))) _ _ hM _ (lv_sub hl [0, 1, 2, 3, 4] rfl)
              · have hyes := hcm.mp (Int32.not_lt.mp c138)
                refine lv_iload F.1.1 F.1.2.1 dX2_retriesByGap_141 (lv_at hl 0 rfl) ?_
                refine mr_ifneN F (tgt := 150) dX2_retriesByGap_143 (by decide) (by omega) (fun c143 => ?_) (fun c143 => ?_)
                · refine lv_iload F.1.1 F.1.2.1 dX2_retriesByGap_150 (lv_at hl 2 rfl) ?_
                  refine lv_if_le (tgt := 164) F.1.1 F.1.2.1 dX2_retriesByGap_152 (by decide) (fun c152 => ?_) (fun c152 => ?_)
                  · have hE : mRt r f d h k q0 t = nI (2 * i) := by rw [gp_hit hI ht8 h1 h2 hk6 h4 hv (show i ≤ t by omega) hz hno hyes]; rw [if_neg (by omega), if_pos c152]
                    refine mr_iconst F 2 dX2_retriesByGap_164 (by decide +kernel) ?_
                    refine lv_iload F.1.1 F.1.2.1 dX2_retriesByGap_165 (lv_at hl 0 rfl) ?_
                    refine mr_imulN F dX2_retriesByGap_167 ?_
                    exact mr_iret F hQ hM ⟨by rw [hE], rfl⟩ (Nat.le_of_ble_eq_true rfl) (Nat.le_of_ble_eq_true rfl) dX2_retriesByGap_168
                  · have hE : mRt r f d h k q0 t = nI (2 * i - 1) := by rw [gp_hit hI ht8 h1 h2 hk6 h4 hv (show i ≤ t by omega) hz hno hyes]; rw [if_neg (by omega), if_neg c152]
                    refine mr_iconst F 2 dX2_retriesByGap_155 (by decide +kernel) ?_
                    refine lv_iload F.1.1 F.1.2.1 dX2_retriesByGap_156 (lv_at hl 0 rfl) ?_
                    refine mr_imulN F dX2_retriesByGap_158 ?_
                    refine mr_iconst F 1 dX2_retriesByGap_159 (by decide +kernel) ?_
                    refine mr_isubN F (by omega) dX2_retriesByGap_160 ?_
                    refine lv_goto (tgt := 168) F.1.1 F.1.2.1 dX2_retriesByGap_161 (by decide) ?_
                    exact mr_iret F hQ hM ⟨by rw [hE], rfl⟩ (Nat.le_of_ble_eq_true rfl) (Nat.le_of_ble_eq_true rfl) dX2_retriesByGap_168
                · have hE : mRt r f d h k q0 t = nI 0 := by rw [gp_hit hI ht8 h1 h2 hk6 h4 hv (show i ≤ t by omega) hz hno hyes]; exact if_pos (by omega)
                  refine mr_iconst F 0 dX2_retriesByGap_146 (by decide +kernel) ?_
                  refine lv_goto (tgt := 168) F.1.1 F.1.2.1 dX2_retriesByGap_147 (by decide) ?_
                  exact mr_iret F hQ hM ⟨by rw [hE], rfl⟩ (Nat.le_of_ble_eq_true rfl) (Nat.le_of_ble_eq_true rfl) dX2_retriesByGap_168
        exact lp2 (t + 1) 0 (by omega) (fun a ha => absurd ha (Nat.not_lt_zero _)) _ _ hM _ (lv_sub hl [0, 1, 2, 3, 7] rfl)
      · refine lv_iload F.1.1 F.1.2.1 dX2_retriesByGap_105 (lv_at hl 0 rfl) ?_
        refine lv_ineg F.1.1 F.1.2.1 dX2_retriesByGap_107 ?_
        refine lv_goto (tgt := 113) F.1.1 F.1.2.1 dX2_retriesByGap_108 (by decide) ?_
        rw [show -(r (846 + (40 * (3 * k + h) + q0)) - mPl r d h k q0) = nI z from hzn c102]
        refine lv_istore (lv' := [(8, _), (7, _), (6, _), (5, _), (4, _), (3, _), (0, _), (1, _), (2, _)]) F.1.1 F.1.2.1 dX2_retriesByGap_113 hl (by decide) rfl (fun ls hl => ?_)
        refine mr_iconst F 0 dX2_retriesByGap_115 (by decide +kernel) ?_
        refine lv_istore (lv' := [(9, _), (8, _), (7, _), (6, _), (5, _), (4, _), (3, _), (0, _), (1, _), (2, _)]) F.1.1 F.1.2.1 dX2_retriesByGap_116 hl (by decide) rfl (fun ls hl => ?_)
        have lp2 : ∀ j i : Nat, i + j = t + 1 → (∀ a, a < i → ¬ gpD z (5 * a) < (gpW (gpY r f d h k q0) 20 0)) → ∀ (H : Heap) (locs : List Loc), mWd G A s.heap (sM G ad n r f dv M0) H locs → ∀ ls : Array Slot, lv_has ls 10 [(9, .int (nI i)), (8, .int (nI z)), (7, .int (gpG r d h k q0)), (6, .int x), (0, .ref (ad 0))] → W p l e (mRm 6 0 0) s m args below meth c H locs 0 0 Q (F0 m 118 ls []) := by
          intro j
          induction j with
          | zero =>
            intro i hi hno H locs hM ls hl
            refine lv_iload F.1.1 F.1.2.1 dX2_retriesByGap_118 (lv_at hl 0 rfl) ?_
            refine lv_aload_n F.1.1 F.1.2.1 dX2_retriesByGap_120 rfl (lv_at hl 4 rfl) ?_
            refine cg1 F hM (sM_0 hd) 4 (by decide) q314 (fun x h => h) (congrArg (fun z => some (Value.int z)) ht) dX2_retriesByGap_121 ?_
            refine mr_icmp_gtN F (tgt := 175) dX2_retriesByGap_124 (by decide) (by omega) (by omega) (fun c124 => ?_) (fun c124 => ?_)
            · refine lv_iconst (v := -1) F.1.1 F.1.2.1 dX2_retriesByGap_175 (by decide +kernel) ?_
              exact mr_iret F hQ hM ⟨by rw [gp_miss hI ht8 h1 h2 hk6 h4 hv hz (fun a ha => hno a (by omega))], rfl⟩ (Nat.le_of_ble_eq_true rfl) (Nat.le_of_ble_eq_true rfl) dX2_retriesByGap_176
            · exact absurd c124 (by omega)
          | succ j ih =>
            intro i hi hno H locs hM ls hl
            refine lv_iload F.1.1 F.1.2.1 dX2_retriesByGap_118 (lv_at hl 0 rfl) ?_
            refine lv_aload_n F.1.1 F.1.2.1 dX2_retriesByGap_120 rfl (lv_at hl 4 rfl) ?_
            refine cg1 F hM (sM_0 hd) 4 (by decide) q314 (fun x h => h) (congrArg (fun z => some (Value.int z)) ht) dX2_retriesByGap_121 ?_
            refine mr_icmp_gtN F (tgt := 175) dX2_retriesByGap_124 (by decide) (by omega) (by omega) (fun c124 => ?_) (fun c124 => ?_)
            · exact absurd c124 (by omega)
            · refine lv_iload F.1.1 F.1.2.1 dX2_retriesByGap_127 (lv_at hl 1 rfl) ?_
              refine mr_iconst F 5 dX2_retriesByGap_129 (by decide +kernel) ?_
              refine lv_iload F.1.1 F.1.2.1 dX2_retriesByGap_130 (lv_at hl 0 rfl) ?_
              refine mr_imulN F dX2_retriesByGap_132 ?_
              refine mc_SNa (As := [_, _]) F hM (cs_X1_apart l ) ⟨va_cnB 2 F.1.2.2.2.2 (lw_meth q919) rfl rfl rfl (mN_w F q1626 rfl) (F.1.2.2.2.2 _ q70) (by decide +kernel) (mRm_ok (by decide) (by decide)), F.1.2.2.2.2 _ q918, trivial⟩ rfl rfl hl.1 rfl (Nat.le_of_ble_eq_true rfl) dX2_retriesByGap_133 ⟨Nat.le_of_ble_eq_true rfl, Nat.le_of_ble_eq_true rfl⟩ (fun H locs hM => ?_)
              rw [mAp_nat (by omega) (by omega)]
              have hcm := gp_cmp (D := gpD z (5 * i)) hx (gpW_all 20 0 (fun j h => absurd h (Nat.not_lt_zero _))).2.1 (by unfold gpD; omega)
              refine lv_iload F.1.1 F.1.2.1 dX2_retriesByGap_136 (lv_at hl 3 rfl) ?_
              refine lv_icmp_gt (tgt := 169) F.1.1 F.1.2.1 dX2_retriesByGap_138 (by decide) (fun c138 => ?_) (fun c138 => ?_)
              · refine lv_iinc (lv' := [(9, _), (8, _), (7, _), (6, _), (0, _)]) F.1.1 F.1.2.1 dX2_retriesByGap_169 hl (k := 0) rfl (nK_add _ 1) (by decide) rfl (fun ls hl => ?_)
                refine lv_goto (tgt := 118) F.1.1 F.1.2.1 dX2_retriesByGap_172 (by decide) ?_
                exact ih (i + 1) (by omega) (fun a ha => by
                    rcases Nat.lt_or_ge a i with q | q
                    · exact hno a q
                    · rw [show a = i by omega]; exact fun q => absurd c138 (Int32.not_lt.mpr (hcm.mpr q))) _ _ hM _ (lv_sub hl [0, 1, 2, 3, 4] rfl)
              · have hyes := hcm.mp (Int32.not_lt.mp c138)
                refine lv_iload F.1.1 F.1.2.1 dX2_retriesByGap_141 (lv_at hl 0 rfl) ?_
                refine mr_ifneN F (tgt := 150) dX2_retriesByGap_143 (by decide) (by omega) (fun c143 => ?_) (fun c143 => ?_)
                · refine lv_iload F.1.1 F.1.2.1 dX2_retriesByGap_150 (lv_at hl 2 rfl) ?_
                  refine lv_if_le (tgt := 164) F.1.1 F.1.2.1 dX2_retriesByGap_152 (by decide) (fun c152 => ?_) (fun c152 => ?_)
                  · have hE : mRt r f d h k q0 t = nI (2 * i) := by rw [gp_hit hI ht8 h1 h2 hk6 h4 hv (show i ≤ t by omega) hz hno hyes]; rw [if_neg (by omega), if_pos c152]
                    refine mr_iconst F 2 dX2_retriesByGap_164 (by decide +kernel) ?_
                    refine lv_iload F.1.1 F.1.2.1 dX2_retriesByGap_165 (lv_at hl 0 rfl) ?_
                    refine mr_imulN F dX2_retriesByGap_167 ?_
                    exact mr_iret F hQ hM ⟨by rw [hE], rfl⟩ (Nat.le_of_ble_eq_true rfl) (Nat.le_of_ble_eq_true rfl) dX2_retriesByGap_168
                  · have hE : mRt r f d h k q0 t = nI (2 * i - 1) := by rw [gp_hit hI ht8 h1 h2 hk6 h4 hv (show i ≤ t by omega) hz hno hyes]; rw [if_neg (by omega), if_neg c152]
                    refine mr_iconst F 2 dX2_retriesByGap_155 (by decide +kernel) ?_
                    refine lv_iload F.1.1 F.1.2.1 dX2_retriesByGap_156 (lv_at hl 0 rfl) ?_
                    refine mr_imulN F dX2_retriesByGap_158 ?_
                    refine mr_iconst F 1 dX2_retriesByGap_159 (by decide +kernel) ?_
                    refine mr_isubN F (by omega) dX2_retriesByGap_160 ?_
                    refine lv_goto (tgt := 168) F.1.1 F.1.2.1 dX2_retriesByGap_161 (by decide) ?_
                    exact mr_iret F hQ hM ⟨by rw [hE], rfl⟩ (Nat.le_of_ble_eq_true rfl) (Nat.le_of_ble_eq_true rfl) dX2_retriesByGap_168
                · have hE : mRt r f d h k q0 t = nI 0 := by rw [gp_hit hI ht8 h1 h2 hk6 h4 hv (show i ≤ t by omega) hz hno hyes]; exact if_pos (by omega)
                  refine mr_iconst F 0 dX2_retriesByGap_146 (by decide +kernel) ?_
                  refine lv_goto (tgt := 168) F.1.1 F.1.2.1 dX2_retriesByGap_147 (by decide) ?_
                  exact mr_iret F hQ hM ⟨by rw [hE], rfl⟩ (Nat.le_of_ble_eq_true rfl) (Nat.le_of_ble_eq_true rfl) dX2_retriesByGap_168
        exact lp2 (t + 1) 0 (by omega) (fun a ha => absurd ha (Nat.not_lt_zero _)) _ _ hM _ (lv_sub hl [0, 1, 2, 3, 7] rfl)
    have lp : ∀ j w : Nat, w + j = 20 → (gpW (gpY r f d h k q0) 20 0) = gpW (gpY r f d h k q0) j w → ∀ (x : Int32), x + nI 1 = nI w → ∀ (H : Heap) (locs : List Loc), mWd G A s.heap (sM G ad n r f dv M0) H locs → ∀ ls : Array Slot, lv_has ls 10 [(6, .int x), (5, .float (gpY r f d h k q0)), (4, .int (nI q0)), (3, .ref (ad (80 + (3 * k + h)))), (0, .ref (ad 0)), (1, .int (nI d)), (2, .int (nI h))] → W p l e (mRm 6 0 0) s m args below meth c H locs 0 0 Q (F0 m 54 ls []) := by
      intro j
      induction j with
      | zero =>
        intro w hw hg x hx H locs hM ls hl
        refine lv_iload F.1.1 F.1.2.1 dX2_retriesByGap_54 (lv_at hl 0 rfl) ?_
        refine mr_iconst F 1 dX2_retriesByGap_56 (by decide +kernel) ?_
        refine lv_iadd F.1.1 F.1.2.1 dX2_retriesByGap_57 ?_
        rw [hx]
        refine mr_bipush F 20 dX2_retriesByGap_58 (by decide +kernel) ?_
        refine mr_icmp_geN F (tgt := 84) dX2_retriesByGap_60 (by decide) (by omega) (by omega) (fun c60 => ?_) (fun c60 => ?_)
        · exact k84 x (by rw [hg]; exact hx) _ _ hM _ hl
        · exact absurd c60 (by omega)
      | succ j ih =>
        intro w hw hg x hx H locs hM ls hl
        refine lv_iload F.1.1 F.1.2.1 dX2_retriesByGap_54 (lv_at hl 0 rfl) ?_
        refine mr_iconst F 1 dX2_retriesByGap_56 (by decide +kernel) ?_
        refine lv_iadd F.1.1 F.1.2.1 dX2_retriesByGap_57 ?_
        rw [hx]
        refine mr_bipush F 20 dX2_retriesByGap_58 (by decide +kernel) ?_
        refine mr_icmp_geN F (tgt := 84) dX2_retriesByGap_60 (by decide) (by omega) (by omega) (fun c60 => ?_) (fun c60 => ?_)
        · exact absurd c60 (by omega)
        · refine lv_fload F.1.1 F.1.2.1 dX2_retriesByGap_63 (lv_at hl 1 rfl) ?_
          refine lv_iload F.1.1 F.1.2.1 dX2_retriesByGap_65 (lv_at hl 0 rfl) ?_
          refine mr_iconst F 1 dX2_retriesByGap_67 (by decide +kernel) ?_
          refine lv_iadd F.1.1 F.1.2.1 dX2_retriesByGap_68 ?_
          rw [hx]
          refine mc_Sa (As := [_, _]) F hM (cs_X9_signal l (gpY_fs hI h2 hk6 h4) (Or.inr ⟨w, by omega, rfl⟩)) (va_cwS 2 F.1.2.2.2.2 (lw_S q1625 q966 q95 q967) rfl rfl rfl (by decide +kernel) (mRm_ok (by decide) (by decide))) rfl rfl hl.1 rfl (Nat.le_of_ble_eq_true rfl) dX2_retriesByGap_69 ⟨Nat.le_of_ble_eq_true rfl, Nat.le_of_ble_eq_true rfl⟩ (fun H locs hM => ?_)
          refine lv_ldcf F.1.1 F.1.2.1 F.1.2.2.2.1 (F.1.2.2.2.2 _ q969) dX2_retriesByGap_72 ?_
          refine lv_fcmp F.1.1 F.1.2.1 dX2_retriesByGap_74 ?_
          refine lv_if_lt (tgt := 84) F.1.1 F.1.2.1 dX2_retriesByGap_75 (by decide) (fun c75 => ?_) (fun c75 => ?_)
          · exact k84 x (by rw [hg, gpW_f (fun q => q c75)]; exact hx) _ _ hM _ hl
          · refine lv_iinc (lv' := [(6, _), (5, _), (4, _), (3, _), (0, _), (1, _), (2, _)]) F.1.1 F.1.2.1 dX2_retriesByGap_78 hl (k := 0) rfl rfl (by decide) rfl (fun ls hl => ?_)
            refine lv_goto (tgt := 54) F.1.1 F.1.2.1 dX2_retriesByGap_81 (by decide) ?_
            exact ih (w + 1) (by omega) (by rw [hg, gpW_t (show mOk (fSg (nI w) (gpY r f d h k q0)) from c75)]) _ (by show x + nI 1 + nI 1 = nI (w + 1); rw [hx]; exact nK_add w 1) _ _ hM _ (lv_sub hl [0, 1, 2, 3, 4, 5, 6] rfl)
    exact lp 20 0 rfl rfl _ (by decide) _ _ hM _ hl
  · refine lv_iconst (v := -1) F.1.1 F.1.2.1 dX2_retriesByGap_27 (by decide +kernel) ?_
    exact mr_iret F hQ hM ⟨by rw [gp_none hI h1 h2 hk6 h4 (bI_n0 c24)], rfl⟩ (Nat.le_of_ble_eq_true rfl) (Nat.le_of_ble_eq_true rfl) dX2_retriesByGap_28
