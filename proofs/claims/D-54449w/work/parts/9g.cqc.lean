/-! THE BUILDER: its length and room -/
set_option maxHeartbeats 4000000 in
theorem cs_J18_max_b (l : Launch) {G : mG} {M0 : mM} {a b : Nat} (h : a < b) (hb : b < 2 ^ 31) : mMet l yJ18_max (ws_ yJ18_max cJ18_max 2 (some .int)) (mRm 1 0 0) [.int (nI a), .int (nI b)] G (pPre (M0)) (pPost (M0) (some (.int (nI b)))) := by
  refine mMet.of (by decide +kernel) (Nat.le_of_ble_eq_true rfl) fun p e s m args below meth c A Q M hM0 F hnm hQ hM ls hl => ?_
  have hM0 : M0 = M := hM0.symm
  subst hM0
  have hl : lv_has ls 2 [(0, .int (nI a)), (1, .int (nI b))] := hl
  refine lv_iload_n F.1.1 F.1.2.1 dJ18_max_0 rfl (lv_at hl 0 rfl) ?_
  refine lv_iload_n F.1.1 F.1.2.1 dJ18_max_1 rfl (lv_at hl 1 rfl) ?_
  refine mr_icmp_ltN F (tgt := 9) dJ18_max_2 (by decide) (by omega) (by omega) (fun c2 => ?_) (fun c2 => ?_)
  · refine lv_iload_n F.1.1 F.1.2.1 dJ18_max_9 rfl (lv_at hl 1 rfl) ?_
    exact mr_iret F hQ hM ⟨rfl, rfl⟩ (Nat.le_of_ble_eq_true rfl) (Nat.le_of_ble_eq_true rfl) dJ18_max_10
  · exact absurd c2 (by omega)
set_option maxHeartbeats 4000000 in
theorem cs_J18_min (l : Launch) {G : mG} {M0 : mM} {a b : Nat} (h : a ≤ b) (hb : b < 2 ^ 31) : mMet l yJ18_min (ws_ yJ18_min cJ18_min 2 (some .int)) (mRm 1 0 0) [.int (nI a), .int (nI b)] G (pPre (M0)) (pPost (M0) (some (.int (nI a)))) := by
  refine mMet.of (by decide +kernel) (Nat.le_of_ble_eq_true rfl) fun p e s m args below meth c A Q M hM0 F hnm hQ hM ls hl => ?_
  have hM0 : M0 = M := hM0.symm
  subst hM0
  have hl : lv_has ls 2 [(0, .int (nI a)), (1, .int (nI b))] := hl
  refine lv_iload_n F.1.1 F.1.2.1 dJ18_min_0 rfl (lv_at hl 0 rfl) ?_
  refine lv_iload_n F.1.1 F.1.2.1 dJ18_min_1 rfl (lv_at hl 1 rfl) ?_
  refine mr_icmp_gtN F (tgt := 9) dJ18_min_2 (by decide) (by omega) (by omega) (fun c2 => ?_) (fun c2 => ?_)
  · exact absurd c2 (by omega)
  · refine lv_iload_n F.1.1 F.1.2.1 dJ18_min_5 rfl (lv_at hl 0 rfl) ?_
    refine lv_goto (tgt := 10) F.1.1 F.1.2.1 dJ18_min_6 (by decide) ?_
    exact mr_iret F hQ hM ⟨rfl, rfl⟩ (Nat.le_of_ble_eq_true rfl) (Nat.le_of_ble_eq_true rfl) dJ18_min_10
set_option maxHeartbeats 4000000 in
theorem cs_J22_canEncode (l : Launch) {G : mG} {M0 : mM} {a : Nat} (h : a < 128) : mMet l yJ22_canEncode (ws_ yJ22_canEncode cJ22_canEncode 1 (some .boolean)) (mRm 1 0 0) [.int (nI a)] G (pPre (M0)) (pPost (M0) (some (.int (nI 1)))) := by
  refine mMet.of (by decide +kernel) (Nat.le_of_ble_eq_true rfl) fun p e s m args below meth c A Q M hM0 F hnm hQ hM ls hl => ?_
  have hM0 : M0 = M := hM0.symm
  subst hM0
  have hl : lv_has ls 1 [(0, .int (nI a))] := hl
  refine lv_iload_n F.1.1 F.1.2.1 dJ22_canEncode_0 rfl (lv_at hl 0 rfl) ?_
  refine mr_sipush F 255 dJ22_canEncode_1 (by decide +kernel) ?_
  refine mr_icmp_gtN F (tgt := 11) dJ22_canEncode_4 (by decide) (by omega) (by omega) (fun c4 => ?_) (fun c4 => ?_)
  · exact absurd c4 (by omega)
  · refine mr_iconst F 1 dJ22_canEncode_7 (by decide +kernel) ?_
    refine lv_goto (tgt := 12) F.1.1 F.1.2.1 dJ22_canEncode_8 (by decide) ?_
    exact mr_zret F hQ (by first | rfl | exact nZ_bI _) hM ⟨rfl, rfl⟩ (Nat.le_of_ble_eq_true rfl) (Nat.le_of_ble_eq_true rfl) dJ22_canEncode_12
set_option maxHeartbeats 4000000 in
theorem cs_J17_newLength (l : Launch) {G : mG} {M0 : mM} {a g k : Nat} (h : g < k) (h2 : a + k < 1000) : mMet l yJ17_newLength (ws_ yJ17_newLength cJ17_newLength 4 (some .int)) (mRm 2 0 0) [.int (nI a), .int (nI g), .int (nI k)] G (pPre (M0)) (pPost (M0) (some (.int (nI (a + k))))) := by
  refine mMet.of (by decide +kernel) (Nat.le_of_ble_eq_true rfl) fun p e s m args below meth c A Q M hM0 F hnm hQ hM ls hl => ?_
  have hM0 : M0 = M := hM0.symm
  subst hM0
  have hl : lv_has ls 4 [(0, .int (nI a)), (1, .int (nI g)), (2, .int (nI k))] := hl
  refine lv_iload_n F.1.1 F.1.2.1 dJ17_newLength_0 rfl (lv_at hl 0 rfl) ?_
  refine lv_iload_n F.1.1 F.1.2.1 dJ17_newLength_1 rfl (lv_at hl 1 rfl) ?_
  refine lv_iload_n F.1.1 F.1.2.1 dJ17_newLength_2 rfl (lv_at hl 2 rfl) ?_
  refine mc_Sa (As := [_, _]) F hM (cs_J18_max_b l (by omega) (by omega)) (va_cwS 2 F.1.2.2.2.2 (lw_S q484 q485 q97 q486) rfl rfl rfl (by decide +kernel) (mRm_ok (by decide) (by decide))) rfl rfl hl.1 rfl (Nat.le_of_ble_eq_true rfl) dJ17_newLength_3 ⟨Nat.le_of_ble_eq_true rfl, Nat.le_of_ble_eq_true rfl⟩ (fun H locs hM => ?_)
  refine mr_iaddN F dJ17_newLength_6 ?_
  refine lv_istore_n (lv' := [(3, _), (0, _), (1, _), (2, _)]) F.1.1 F.1.2.1 dJ17_newLength_7 rfl hl (by decide) rfl (fun ls hl => ?_)
  refine mr_iconst F 0 dJ17_newLength_8 (by decide +kernel) ?_
  refine lv_iload_n F.1.1 F.1.2.1 dJ17_newLength_9 rfl (lv_at hl 0 rfl) ?_
  refine mr_icmp_geN F (tgt := 21) dJ17_newLength_10 (by decide) (by omega) (by omega) (fun c10 => ?_) (fun c10 => ?_)
  · exact absurd c10 (by omega)
  · refine lv_iload_n F.1.1 F.1.2.1 dJ17_newLength_13 rfl (lv_at hl 0 rfl) ?_
    refine lv_ldc F.1.1 F.1.2.1 F.1.2.2.2.1 (F.1.2.2.2.2 _ q487) dJ17_newLength_14 ?_
    refine lv_icmp_gt (tgt := 21) F.1.1 F.1.2.1 dJ17_newLength_16 (by decide) (fun c16 => ?_) (fun c16 => ?_)
    · exact absurd c16 (sb_lim h2)
    · refine lv_iload_n F.1.1 F.1.2.1 dJ17_newLength_19 rfl (lv_at hl 0 rfl) ?_
      exact mr_iret F hQ hM ⟨rfl, rfl⟩ (Nat.le_of_ble_eq_true rfl) (Nat.le_of_ble_eq_true rfl) dJ17_newLength_20
set_option maxHeartbeats 4000000 in
theorem cs_J9_isLatin1 (l : Launch) {G : mG} {M0 : mM} {q v nb : Nat} {z : Int32} (h_q : M0 q = some (eO 11 [.ref v, .int (nI 0), .int z, .int (nI nb)])) : mMet l yJ9_isLatin1 (ws_ yJ9_isLatin1 cJ9_isLatin1 1 (some .boolean)) (mRm 1 0 0) [.ref q] G (pPre M0) (pPost M0 (some (.int (nI 1)))) := by
  refine mMet.of (by decide +kernel) (Nat.le_of_ble_eq_true rfl) fun p e s m args below meth c A Q M hM0 F hnm hQ hM ls hl => ?_
  have hM0 : M0 = M := hM0.symm
  subst hM0
  have hl : lv_has ls 1 [(0, .ref q)] := hl
  refine mr_getsC F hM q362 dJ9_isLatin1_0 ?_
  refine mr_ifeqN F (tgt := 17) dJ9_isLatin1_3 (by decide) (by omega) (fun c3 => ?_) (fun c3 => ?_)
  · exact absurd c3 (by decide)
  · refine lv_aload_n F.1.1 F.1.2.1 dJ9_isLatin1_6 rfl (lv_at hl 0 rfl) ?_
    refine cg11 F hM h_q 1 (by decide) q372 (fun x h => h) rfl dJ9_isLatin1_7 ?_
    refine mr_ifneN F (tgt := 17) dJ9_isLatin1_10 (by decide) (by omega) (fun c10 => ?_) (fun c10 => ?_)
    · exact absurd c10 (by decide)
    · refine mr_iconst F 1 dJ9_isLatin1_13 (by decide +kernel) ?_
      refine lv_goto (tgt := 18) F.1.1 F.1.2.1 dJ9_isLatin1_14 (by decide) ?_
      exact mr_zret F hQ (by first | rfl | exact nZ_bI _) hM ⟨rfl, rfl⟩ (Nat.le_of_ble_eq_true rfl) (Nat.le_of_ble_eq_true rfl) dJ9_isLatin1_18
set_option maxHeartbeats 4000000 in
theorem cs_J9_length (l : Launch) {G : mG} {M0 : mM} {q v nb : Nat} {z : Int32} (h_q : M0 q = some (eO 11 [.ref v, .int (nI 0), .int z, .int (nI nb)])) : mMet l yJ9_length (ws_ yJ9_length cJ9_length 1 (some .int)) (mRm 1 0 0) [.ref q] G (pPre M0) (pPost M0 (some (.int (nI nb)))) := by
  refine mMet.of (by decide +kernel) (Nat.le_of_ble_eq_true rfl) fun p e s m args below meth c A Q M hM0 F hnm hQ hM ls hl => ?_
  have hM0 : M0 = M := hM0.symm
  subst hM0
  have hl : lv_has ls 1 [(0, .ref q)] := hl
  refine lv_aload_n F.1.1 F.1.2.1 dJ9_length_0 rfl (lv_at hl 0 rfl) ?_
  refine cg11 F hM h_q 3 (by decide) q375 (fun x h => h) rfl dJ9_length_1 ?_
  exact mr_iret F hQ hM ⟨rfl, rfl⟩ (Nat.le_of_ble_eq_true rfl) (Nat.le_of_ble_eq_true rfl) dJ9_length_4
set_option maxHeartbeats 4000000 in
theorem cs_J10_length (l : Launch) {G : mG} {M0 : mM} {q v nb : Nat} {z : Int32} (h_q : M0 q = some (eO 11 [.ref v, .int (nI 0), .int z, .int (nI nb)])) : mMet l yJ10_length (ws_ yJ10_length cJ10_length 1 (some .int)) (mRm 2 0 0) [.ref q] G (pPre M0) (pPost M0 (some (.int (nI nb)))) := by
  refine mMet.of (by decide +kernel) (Nat.le_of_ble_eq_true rfl) fun p e s m args below meth c A Q M hM0 F hnm hQ hM ls hl => ?_
  have hM0 : M0 = M := hM0.symm
  subst hM0
  have hl : lv_has ls 1 [(0, .ref q)] := hl
  refine lv_aload_n F.1.1 F.1.2.1 dJ10_length_0 rfl (lv_at hl 0 rfl) ?_
  refine mc_SUa (As := []) F hM (cs_J9_length l h_q) (va_cwSU 0 F.1.2.2.2.2 (lw_SU q444 q2147 q384 q445 q85 q446) rfl rfl rfl (by decide +kernel) (mRm_ok (by decide) (by decide))) h_q (ci := 11) rfl rfl rfl rfl hl.1 rfl (Nat.le_of_ble_eq_true rfl) dJ10_length_1 ⟨Nat.le_of_ble_eq_true rfl, Nat.le_of_ble_eq_true rfl⟩ (fun H locs hM => ?_)
  exact mr_iret F hQ hM ⟨rfl, rfl⟩ (Nat.le_of_ble_eq_true rfl) (Nat.le_of_ble_eq_true rfl) dJ10_length_4
set_option maxHeartbeats 4000000 in
theorem cs_J9_newCapacity (l : Launch) {G : mG} {M0 : mM} {q v cap nb : Nat} {z : Int32} {t : Nat → Int32} {k : Nat} (h_q : M0 q = some (eO 11 [.ref v, .int (nI 0), .int z, .int (nI nb)])) (h_v : M0 v = some (eI (G.2.1 3) cap t)) (n_q_v : q ≠ v) (h1 : cap < k) (h2 : k ≤ 2 * cap + 1) (h3 : cap ≤ 100) : mMet l yJ9_newCapacity (ws_ yJ9_newCapacity cJ9_newCapacity 6 (some .int)) (mRm 3 0 0) [.ref q, .int (nI k)] G (pPre M0) (pPost M0 (some (.int (nI (2 * cap + 2))))) := by
  refine mMet.of (by decide +kernel) (Nat.le_of_ble_eq_true rfl) fun p e s m args below meth c A Q M hM0 F hnm hQ hM ls hl => ?_
  have hM0 : M0 = M := hM0.symm
  subst hM0
  have hl : lv_has ls 6 [(0, .ref q), (1, .int (nI k))] := hl
  refine lv_aload_n F.1.1 F.1.2.1 dJ9_newCapacity_0 rfl (lv_at hl 0 rfl) ?_
  refine cg11 F hM h_q 0 (by decide) q371 (fun x h => h) rfl dJ9_newCapacity_1 ?_
  refine mr_alenB F hM h_v dJ9_newCapacity_4 ?_
  refine lv_istore_n (lv' := [(2, _), (0, _), (1, _)]) F.1.1 F.1.2.1 dJ9_newCapacity_5 rfl hl (by decide) rfl (fun ls hl => ?_)
  refine lv_iload_n F.1.1 F.1.2.1 dJ9_newCapacity_6 rfl (lv_at hl 2 rfl) ?_
  refine lv_aload_n F.1.1 F.1.2.1 dJ9_newCapacity_7 rfl (lv_at hl 1 rfl) ?_
  refine cg11 F hM h_q 1 (by decide) q372 (fun x h => h) rfl dJ9_newCapacity_8 ?_
  refine lv_ishl F.1.1 F.1.2.1 dJ9_newCapacity_11 ?_
  rw [sb_shlN]
  refine lv_istore_n (lv' := [(3, _), (2, _), (0, _), (1, _)]) F.1.1 F.1.2.1 dJ9_newCapacity_12 rfl hl (by decide) rfl (fun ls hl => ?_)
  refine lv_iload_n F.1.1 F.1.2.1 dJ9_newCapacity_13 rfl (lv_at hl 0 rfl) ?_
  refine lv_iload_n F.1.1 F.1.2.1 dJ9_newCapacity_14 rfl (lv_at hl 1 rfl) ?_
  refine mr_isubN F (by omega) dJ9_newCapacity_15 ?_
  refine lv_istore (lv' := [(4, _), (3, _), (2, _), (0, _), (1, _)]) F.1.1 F.1.2.1 dJ9_newCapacity_16 hl (by decide) rfl (fun ls hl => ?_)
  refine lv_iload_n F.1.1 F.1.2.1 dJ9_newCapacity_18 rfl (lv_at hl 2 rfl) ?_
  refine lv_iload F.1.1 F.1.2.1 dJ9_newCapacity_19 (lv_at hl 0 rfl) ?_
  refine lv_iload_n F.1.1 F.1.2.1 dJ9_newCapacity_21 rfl (lv_at hl 2 rfl) ?_
  refine mr_iconst F 2 dJ9_newCapacity_22 (by decide +kernel) ?_
  refine lv_aload_n F.1.1 F.1.2.1 dJ9_newCapacity_23 rfl (lv_at hl 3 rfl) ?_
  refine cg11 F hM h_q 1 (by decide) q372 (fun x h => h) rfl dJ9_newCapacity_24 ?_
  refine lv_ishl F.1.1 F.1.2.1 dJ9_newCapacity_27 ?_
  rw [sb_shlN]
  refine mr_iaddN F dJ9_newCapacity_28 ?_
  refine mc_Sa (As := [_, _, _]) F hM (cs_J17_newLength l (by omega) (by omega)) (va_cwS 3 F.1.2.2.2.2 (lw_S q481 q482 q96 q483) rfl rfl rfl (by decide +kernel) (mRm_ok (by decide) (by decide))) rfl rfl hl.1 rfl (Nat.le_of_ble_eq_true rfl) dJ9_newCapacity_29 ⟨Nat.le_of_ble_eq_true rfl, Nat.le_of_ble_eq_true rfl⟩ (fun H locs hM => ?_)
  refine lv_istore (lv' := [(5, _), (4, _), (3, _), (2, _), (0, _), (1, _)]) F.1.1 F.1.2.1 dJ9_newCapacity_32 hl (by decide) rfl (fun ls hl => ?_)
  refine lv_iload F.1.1 F.1.2.1 dJ9_newCapacity_34 (lv_at hl 0 rfl) ?_
  refine lv_ldc F.1.1 F.1.2.1 F.1.2.2.2.1 (F.1.2.2.2.2 _ q491) dJ9_newCapacity_36 ?_
  refine lv_icmp_ne (tgt := 51) F.1.1 F.1.2.1 dJ9_newCapacity_38 (by decide) (fun c38 => ?_) (fun c38 => ?_)
  · refine lv_iload F.1.1 F.1.2.1 dJ9_newCapacity_51 (lv_at hl 0 rfl) ?_
    refine lv_aload_n F.1.1 F.1.2.1 dJ9_newCapacity_53 rfl (lv_at hl 4 rfl) ?_
    refine cg11 F hM h_q 1 (by decide) q372 (fun x h => h) rfl dJ9_newCapacity_54 ?_
    refine lv_ishr F.1.1 F.1.2.1 dJ9_newCapacity_57 ?_
    rw [sb_shrN]
    exact mr_iret F hQ hM ⟨by rw [show cap + (cap + 2) = 2 * cap + 2 by omega], rfl⟩ (Nat.le_of_ble_eq_true rfl) (Nat.le_of_ble_eq_true rfl) dJ9_newCapacity_58
  · exact absurd c38 (sb_lim2 (by omega))
set_option maxHeartbeats 4000000 in
theorem cs_J19_copyOf (l : Launch) {G : mG} {M0 : mM} {v cap k : Nat} {t : Nat → Int32} (h_v : M0 v = some (eI (G.2.1 3) cap t)) (h1 : cap < k) (h2 : k ≤ 202) (hfit : sb_Fit t) : mMet l yJ19_copyOf (ws_ yJ19_copyOf cJ19_copyOf 3 (some (.array .byte))) (mRm 2 1 202) [.ref v, .int (nI k)] G (pPre M0) (fun _ ρ M1 => ∃ u, ρ = some (.ref u) ∧ M0 u = none ∧ M1 = mup M0 u (eI (G.2.1 3) k (va_cpy t (fun _ => 0) 0 0 cap))) := by
  refine mMet.of (by decide +kernel) (Nat.le_of_ble_eq_true rfl) fun p e s m args below meth c A Q M hM0 F hnm hQ hM ls hl => ?_
  have hM0 : M0 = M := hM0.symm
  subst hM0
  have hl : lv_has ls 3 [(0, .ref v), (1, .int (nI k))] := hl
  refine lv_iload_n F.1.1 F.1.2.1 dJ19_copyOf_0 rfl (lv_at hl 1 rfl) ?_
  refine lv_aload_n F.1.1 F.1.2.1 dJ19_copyOf_1 rfl (lv_at hl 0 rfl) ?_
  refine mr_alenB F hM h_v dJ19_copyOf_2 ?_
  refine mr_icmp_neN F (tgt := 14) dJ19_copyOf_3 (by decide) (by omega) (by omega) (fun c3 => ?_) (fun c3 => ?_)
  · refine lv_iload_n F.1.1 F.1.2.1 dJ19_copyOf_14 rfl (lv_at hl 1 rfl) ?_
    refine mr_newb F.1.1 F.1.2.1 F.1.2.2.2.2 q268 F.2.1 hM F.2.2.2.2.1 (by omega) (Nat.le_of_ble_eq_true rfl) (show 0 + k ≤ 202 by omega) dJ19_copyOf_15 (fun u H hq_u _ hM => ?_)
    have n_v_u := kp_ne hq_u h_v
    have h_v := nw_new hM hq_u h_v
    have h_u := nw_self hM
    refine lv_astore_n (lv' := [(2, _), (0, _), (1, _)]) F.1.1 F.1.2.1 dJ19_copyOf_17 rfl hl (by decide) rfl (fun ls hl => ?_)
    refine lv_aload_n F.1.1 F.1.2.1 dJ19_copyOf_18 rfl (lv_at hl 1 rfl) ?_
    refine mr_iconst F 0 dJ19_copyOf_19 (by decide +kernel) ?_
    refine lv_aload_n F.1.1 F.1.2.1 dJ19_copyOf_20 rfl (lv_at hl 0 rfl) ?_
    refine mr_iconst F 0 dJ19_copyOf_21 (by decide +kernel) ?_
    refine lv_aload_n F.1.1 F.1.2.1 dJ19_copyOf_22 rfl (lv_at hl 1 rfl) ?_
    refine mr_alenB F hM h_v dJ19_copyOf_23 ?_
    refine lv_iload_n F.1.1 F.1.2.1 dJ19_copyOf_24 rfl (lv_at hl 2 rfl) ?_
    refine mc_Sa (As := [_, _]) F hM (cs_J18_min l (by omega) (by omega)) (va_cwS 2 F.1.2.2.2.2 (lw_S q502 q503 q97 q504) rfl rfl rfl (by decide +kernel) (mRm_ok (by decide) (by decide))) rfl rfl hl.1 rfl (Nat.le_of_ble_eq_true rfl) dJ19_copyOf_25 ⟨Nat.le_of_ble_eq_true rfl, (show 0 + k + 0 ≤ 202 by omega)⟩ (fun H locs hM => ?_)
    refine mr_copyB F hM q505 h_v h_u (by omega) (by omega) (by omega) (by omega) (by omega) (fun i _ => hfit _) hl.1 (Nat.le_of_ble_eq_true rfl) (Nat.le_of_ble_eq_true rfl) dJ19_copyOf_28 (fun H locs hM => ?_)
    have h_v := nw_put hM n_v_u h_v
    have h_u := nw_self hM
    refine lv_aload_n F.1.1 F.1.2.1 dJ19_copyOf_31 rfl (lv_at hl 0 rfl) ?_
    exact mr_aret F hQ (by first | exact Or.inl ⟨_, rfl⟩ | exact Or.inr ⟨_, rfl⟩) hM ⟨u, rfl, hq_u, mup_mup⟩ (Nat.le_of_ble_eq_true rfl) (show 0 + k + 0 ≤ 202 by omega) dJ19_copyOf_32
  · exact absurd c3 (by omega)
set_option maxHeartbeats 4000000 in
theorem cs_J9_ensureCapacityInternal_ok (l : Launch) {G : mG} {M0 : mM} {q v cap nb : Nat} {z : Int32} {t : Nat → Int32} {k : Nat} (h_q : M0 q = some (eO 11 [.ref v, .int (nI 0), .int z, .int (nI nb)])) (h_v : M0 v = some (eI (G.2.1 3) cap t)) (n_q_v : q ≠ v) (h1 : k ≤ cap) (h3 : cap ≤ 100) : mMet l yJ9_ensureCapacityInternal (ws_ yJ9_ensureCapacityInternal cJ9_ensureCapacityInternal 3 none) (mRm 4 0 0) [.ref q, .int (nI k)] G (pPre M0) (pPost M0 none) := by
  refine mMet.of (by decide +kernel) (Nat.le_of_ble_eq_true rfl) fun p e s m args below meth c A Q M hM0 F hnm hQ hM ls hl => ?_
  have hM0 : M0 = M := hM0.symm
  subst hM0
  have hl : lv_has ls 3 [(0, .ref q), (1, .int (nI k))] := hl
  refine lv_aload_n F.1.1 F.1.2.1 dJ9_ensureCapacityInternal_0 rfl (lv_at hl 0 rfl) ?_
  refine cg11 F hM h_q 0 (by decide) q371 (fun x h => h) rfl dJ9_ensureCapacityInternal_1 ?_
  refine mr_alenB F hM h_v dJ9_ensureCapacityInternal_4 ?_
  refine lv_aload_n F.1.1 F.1.2.1 dJ9_ensureCapacityInternal_5 rfl (lv_at hl 0 rfl) ?_
  refine cg11 F hM h_q 1 (by decide) q372 (fun x h => h) rfl dJ9_ensureCapacityInternal_6 ?_
  refine lv_ishr F.1.1 F.1.2.1 dJ9_ensureCapacityInternal_9 ?_
  rw [sb_shrN]
  refine lv_istore_n (lv' := [(2, _), (0, _), (1, _)]) F.1.1 F.1.2.1 dJ9_ensureCapacityInternal_10 rfl hl (by decide) rfl (fun ls hl => ?_)
  refine lv_iload_n F.1.1 F.1.2.1 dJ9_ensureCapacityInternal_11 rfl (lv_at hl 2 rfl) ?_
  refine lv_iload_n F.1.1 F.1.2.1 dJ9_ensureCapacityInternal_12 rfl (lv_at hl 0 rfl) ?_
  refine lv_isub F.1.1 F.1.2.1 dJ9_ensureCapacityInternal_13 ?_
  refine lv_if_le (tgt := 38) F.1.1 F.1.2.1 dJ9_ensureCapacityInternal_14 (by decide) (fun c14 => ?_) (fun c14 => ?_)
  · exact mr_vret F hQ hM ⟨rfl, rfl⟩ (Nat.le_of_ble_eq_true rfl) (Nat.le_of_ble_eq_true rfl) dJ9_ensureCapacityInternal_38
  · exact absurd (sb_dle h1 (by omega)) c14
set_option maxHeartbeats 4000000 in
theorem cs_J9_ensureCapacityInternal_grow (l : Launch) {G : mG} {M0 : mM} {q v cap nb : Nat} {z : Int32} {t : Nat → Int32} {k : Nat} (h_q : M0 q = some (eO 11 [.ref v, .int (nI 0), .int z, .int (nI nb)])) (h_v : M0 v = some (eI (G.2.1 3) cap t)) (n_q_v : q ≠ v) (h1 : cap < k) (h2 : k ≤ 2 * cap + 1) (h3 : cap ≤ 100) (hfit : sb_Fit t) : mMet l yJ9_ensureCapacityInternal (ws_ yJ9_ensureCapacityInternal cJ9_ensureCapacityInternal 3 none) (mRm 4 1 202) [.ref q, .int (nI k)] G (pPre M0) (fun _ ρ M1 => ρ = none ∧ ∃ u, M0 u = none ∧ M1 = mup (mup M0 u (eI (G.2.1 3) (2 * cap + 2) (va_cpy t (fun _ => 0) 0 0 cap))) q (eO 11 [.ref u, .int (nI 0), .int z, .int (nI nb)])) := by
  refine mMet.of (by decide +kernel) (Nat.le_of_ble_eq_true rfl) fun p e s m args below meth c A Q M hM0 F hnm hQ hM ls hl => ?_
  have hM0 : M0 = M := hM0.symm
  subst hM0
  have hl : lv_has ls 3 [(0, .ref q), (1, .int (nI k))] := hl
  refine lv_aload_n F.1.1 F.1.2.1 dJ9_ensureCapacityInternal_0 rfl (lv_at hl 0 rfl) ?_
  refine cg11 F hM h_q 0 (by decide) q371 (fun x h => h) rfl dJ9_ensureCapacityInternal_1 ?_
  refine mr_alenB F hM h_v dJ9_ensureCapacityInternal_4 ?_
  refine lv_aload_n F.1.1 F.1.2.1 dJ9_ensureCapacityInternal_5 rfl (lv_at hl 0 rfl) ?_
  refine cg11 F hM h_q 1 (by decide) q372 (fun x h => h) rfl dJ9_ensureCapacityInternal_6 ?_
  refine lv_ishr F.1.1 F.1.2.1 dJ9_ensureCapacityInternal_9 ?_
  rw [sb_shrN]
  refine lv_istore_n (lv' := [(2, _), (0, _), (1, _)]) F.1.1 F.1.2.1 dJ9_ensureCapacityInternal_10 rfl hl (by decide) rfl (fun ls hl => ?_)
  refine lv_iload_n F.1.1 F.1.2.1 dJ9_ensureCapacityInternal_11 rfl (lv_at hl 2 rfl) ?_
  refine lv_iload_n F.1.1 F.1.2.1 dJ9_ensureCapacityInternal_12 rfl (lv_at hl 0 rfl) ?_
  refine mr_isubN F (by omega) dJ9_ensureCapacityInternal_13 ?_
  refine mr_ifleN F (tgt := 38) dJ9_ensureCapacityInternal_14 (by decide) (by omega) (fun c14 => ?_) (fun c14 => ?_)
  · exact absurd c14 (by omega)
  · refine lv_aload_n F.1.1 F.1.2.1 dJ9_ensureCapacityInternal_17 rfl (lv_at hl 1 rfl) ?_
    refine lv_aload_n F.1.1 F.1.2.1 dJ9_ensureCapacityInternal_18 rfl (lv_at hl 1 rfl) ?_
    refine cg11 F hM h_q 0 (by decide) q371 (fun x h => h) rfl dJ9_ensureCapacityInternal_19 ?_
    refine lv_aload_n F.1.1 F.1.2.1 dJ9_ensureCapacityInternal_22 rfl (lv_at hl 1 rfl) ?_
    refine lv_iload_n F.1.1 F.1.2.1 dJ9_ensureCapacityInternal_23 rfl (lv_at hl 2 rfl) ?_
    refine mc_Va (As := [_]) F hM (cs_J9_newCapacity l h_q h_v n_q_v h1 h2 h3) (cwP F 1 q480 q477 q85 q479 (mr_selP F q511 rfl q478 q479 (by decide +kernel)) (by decide +kernel) (mRm_ok (by decide) (by decide))) h_q (ci := 11) rfl rfl rfl rfl hl.1 rfl (Nat.le_of_ble_eq_true rfl) dJ9_ensureCapacityInternal_24 ⟨Nat.le_of_ble_eq_true rfl, Nat.le_of_ble_eq_true rfl⟩ (fun H locs hM => ?_)
    refine lv_aload_n F.1.1 F.1.2.1 dJ9_ensureCapacityInternal_27 rfl (lv_at hl 1 rfl) ?_
    refine cg11 F hM h_q 1 (by decide) q372 (fun x h => h) rfl dJ9_ensureCapacityInternal_28 ?_
    refine lv_ishl F.1.1 F.1.2.1 dJ9_ensureCapacityInternal_31 ?_
    rw [sb_shlN]
    refine mc_S (As := [_, _]) F hM (cs_J19_copyOf l h_v (by omega) (by omega) hfit) (va_cwS 2 F.1.2.2.2.2 (lw_S q492 q493 q98 q494) rfl rfl rfl (by decide +kernel) (mRm_ok (by decide) (by decide))) rfl rfl hl.1 rfl (Nat.le_of_ble_eq_true rfl) dJ9_ensureCapacityInternal_32 ⟨Nat.le_of_ble_eq_true rfl, Nat.le_of_ble_eq_true rfl⟩ (fun ρ32 M32 H locs hP32 hM hz32 => ?_)
    obtain ⟨u, rfl, hq_u, rfl⟩ := hP32
    have n_q_u := kp_ne hq_u h_q
    have n_v_u := kp_ne hq_u h_v
    have h_u := mup_self M0 u (eI (G.2.1 3) (2 * cap + 2) (va_cpy t (fun _ => 0) 0 0 cap))
    have h_q := kp_new (e := eI (G.2.1 3) (2 * cap + 2) (va_cpy t (fun _ => 0) 0 0 cap)) hq_u h_q
    have h_v := kp_new (e := eI (G.2.1 3) (2 * cap + 2) (va_cpy t (fun _ => 0) 0 0 cap)) hq_u h_v
    refine cp11 F hM h_q 0 (by decide) q371 (fun x h => h) rfl rfl rfl (Nat.le_of_ble_eq_true rfl) dJ9_ensureCapacityInternal_35 (fun H locs hM => ?_)
    have h_v := nw_put hM (Ne.symm n_q_v) h_v
    have h_u := nw_put hM (Ne.symm n_q_u) h_u
    have h_q := nw_self hM
    exact mr_vret F hQ hM ⟨rfl, u, hq_u, rfl⟩ (Nat.le_of_ble_eq_true rfl) (Nat.le_of_ble_eq_true rfl) dJ9_ensureCapacityInternal_38
