/-! THE BUILDER: letters -/
set_option maxHeartbeats 4000000 in
theorem cs_J9_append_3_ok (l : Launch) {G : mG} {M0 : mM} {q v cap nb : Nat} {z : Int32} {t : Nat → Int32} {c0 : Nat} (h_q : M0 q = some (eO 11 [.ref v, .int (nI 0), .int z, .int (nI nb)])) (h_v : M0 v = some (eI (G.2.1 3) cap t)) (n_q_v : q ≠ v) (h1 : nb < cap) (h3 : cap ≤ 100) (hc : c0 < 128) : mMet l yJ9_append_3 (ws_ yJ9_append_3 cJ9_append_3 2 (some (.object "java/lang/AbstractStringBuilder"))) (mRm 7 0 0) [.ref q, .int (nI c0)] G (pPre M0) (pPost (mup (mup M0 q (eO 11 [.ref v, .int (nI 0), .int z, .int (nI (nb + 1))])) v (eI (G.2.1 3) cap (va_up t nb (nI c0)))) (some (.ref q))) := by
  refine mMet.of (by decide +kernel) (Nat.le_of_ble_eq_true rfl) fun p e s m args below meth c A Q M hM0 F hnm hQ hM ls hl => ?_
  have hM0 : M0 = M := hM0.symm
  subst hM0
  have hl : lv_has ls 2 [(0, .ref q), (1, .int (nI c0))] := hl
  refine lv_aload_n F.1.1 F.1.2.1 dJ9_append_3_0 rfl (lv_at hl 0 rfl) ?_
  refine lv_aload_n F.1.1 F.1.2.1 dJ9_append_3_1 rfl (lv_at hl 0 rfl) ?_
  refine cg11 F hM h_q 3 (by decide) q375 (fun x h => h) rfl dJ9_append_3_2 ?_
  refine mr_iconst F 1 dJ9_append_3_5 (by decide +kernel) ?_
  refine mr_iaddN F dJ9_append_3_6 ?_
  refine mc_Vv (As := [_]) F hM (cs_J9_ensureCapacityInternal_ok l h_q h_v n_q_v (by omega) h3) (cwP F 1 q476 q473 q85 q475 (mr_selP F q511 rfl q474 q475 (by decide +kernel)) (by decide +kernel) (mRm_ok (by decide) (by decide))) h_q (ci := 11) rfl rfl rfl rfl hl.1 rfl (Nat.le_of_ble_eq_true rfl) dJ9_append_3_7 ⟨Nat.le_of_ble_eq_true rfl, Nat.le_of_ble_eq_true rfl⟩ (fun H locs hM => ?_)
  refine lv_aload_n F.1.1 F.1.2.1 dJ9_append_3_10 rfl (lv_at hl 0 rfl) ?_
  refine mc_Ua (As := []) F hM (cs_J9_isLatin1 l h_q) (va_cwU (owner := "java/lang/AbstractStringBuilder") 0 F.1.2.2.2.2 (lw_U q508 q510 q511 q509 q85 q512) rfl rfl rfl rfl (by decide +kernel) (mRm_ok (by decide) (by decide))) h_q rfl rfl rfl rfl hl.1 rfl (Nat.le_of_ble_eq_true rfl) dJ9_append_3_11 ⟨Nat.le_of_ble_eq_true rfl, Nat.le_of_ble_eq_true rfl⟩ (fun H locs hM => ?_)
  refine mr_ifeqN F (tgt := 45) dJ9_append_3_14 (by decide) (by omega) (fun c14 => ?_) (fun c14 => ?_)
  · exact absurd c14 (by omega)
  · refine lv_iload_n F.1.1 F.1.2.1 dJ9_append_3_17 rfl (lv_at hl 1 rfl) ?_
    refine mc_Sa (As := [_]) F hM (cs_J22_canEncode l (by omega)) (va_cwS 1 F.1.2.2.2.2 (lw_S q1660 q1661 q103 q1662) rfl rfl rfl (by decide +kernel) (mRm_ok (by decide) (by decide))) rfl rfl hl.1 rfl (Nat.le_of_ble_eq_true rfl) dJ9_append_3_18 ⟨Nat.le_of_ble_eq_true rfl, Nat.le_of_ble_eq_true rfl⟩ (fun H locs hM => ?_)
    refine mr_ifeqN F (tgt := 45) dJ9_append_3_21 (by decide) (by omega) (fun c21 => ?_) (fun c21 => ?_)
    · exact absurd c21 (by omega)
    · refine lv_aload_n F.1.1 F.1.2.1 dJ9_append_3_24 rfl (lv_at hl 0 rfl) ?_
      refine cg11 F hM h_q 0 (by decide) q371 (fun x h => h) rfl dJ9_append_3_25 ?_
      refine lv_aload_n F.1.1 F.1.2.1 dJ9_append_3_28 rfl (lv_at hl 0 rfl) ?_
      refine lv_dup F.1.1 F.1.2.1 dJ9_append_3_29 rfl ?_
      refine cg11 F hM h_q 3 (by decide) q375 (fun x h => h) rfl dJ9_append_3_30 ?_
      refine lv_dup_x1 F.1.1 F.1.2.1 dJ9_append_3_33 rfl rfl ?_
      refine mr_iconst F 1 dJ9_append_3_34 (by decide +kernel) ?_
      refine mr_iaddN F dJ9_append_3_35 ?_
      refine cp11 F hM h_q 3 (by decide) q375 (fun x h => h) rfl rfl rfl (Nat.le_of_ble_eq_true rfl) dJ9_append_3_36 (fun H locs hM => ?_)
      have h_v := nw_put hM (Ne.symm n_q_v) h_v
      have h_q := nw_self hM
      refine lv_iload_n F.1.1 F.1.2.1 dJ9_append_3_39 rfl (lv_at hl 1 rfl) ?_
      refine lv_i2b F.1.1 F.1.2.1 dJ9_append_3_40 (sb_all c0 hc).1 ?_
      refine mr_bast F hM h_v (by omega) (by omega) (sb_all c0 hc).2.1 dJ9_append_3_41 (fun H locs hM => ?_)
      have h_q := nw_put hM n_q_v h_q
      have h_v := nw_self hM
      refine lv_goto (tgt := 75) F.1.1 F.1.2.1 dJ9_append_3_42 (by decide) ?_
      refine lv_aload_n F.1.1 F.1.2.1 dJ9_append_3_75 rfl (lv_at hl 0 rfl) ?_
      exact mr_aret F hQ (by first | exact Or.inl ⟨_, rfl⟩ | exact Or.inr ⟨_, rfl⟩) hM ⟨rfl, rfl⟩ (Nat.le_of_ble_eq_true rfl) (Nat.le_of_ble_eq_true rfl) dJ9_append_3_76
set_option maxHeartbeats 4000000 in
theorem cs_J9_append_3_grow (l : Launch) {G : mG} {M0 : mM} {q v cap nb : Nat} {z : Int32} {t : Nat → Int32} {c0 : Nat} (h_q : M0 q = some (eO 11 [.ref v, .int (nI 0), .int z, .int (nI nb)])) (h_v : M0 v = some (eI (G.2.1 3) cap t)) (n_q_v : q ≠ v) (h0 : cap < nb + 1) (h1 : nb ≤ 2 * cap) (h3 : cap ≤ 100) (hfit : sb_Fit t) (hc : c0 < 128) : mMet l yJ9_append_3 (ws_ yJ9_append_3 cJ9_append_3 2 (some (.object "java/lang/AbstractStringBuilder"))) (mRm 7 1 202) [.ref q, .int (nI c0)] G (pPre M0) (fun _ ρ M1 => ρ = some (.ref q) ∧ ∃ u, M0 u = none ∧ M1 = mup (mup M0 u (eI (G.2.1 3) (2 * cap + 2) (va_up (va_cpy t (fun _ => 0) 0 0 cap) nb (nI c0)))) q (eO 11 [.ref u, .int (nI 0), .int z, .int (nI (nb + 1))])) := by
  refine mMet.of (by decide +kernel) (Nat.le_of_ble_eq_true rfl) fun p e s m args below meth c A Q M hM0 F hnm hQ hM ls hl => ?_
  have hM0 : M0 = M := hM0.symm
  subst hM0
  have hl : lv_has ls 2 [(0, .ref q), (1, .int (nI c0))] := hl
  refine lv_aload_n F.1.1 F.1.2.1 dJ9_append_3_0 rfl (lv_at hl 0 rfl) ?_
  refine lv_aload_n F.1.1 F.1.2.1 dJ9_append_3_1 rfl (lv_at hl 0 rfl) ?_
  refine cg11 F hM h_q 3 (by decide) q375 (fun x h => h) rfl dJ9_append_3_2 ?_
  refine mr_iconst F 1 dJ9_append_3_5 (by decide +kernel) ?_
  refine mr_iaddN F dJ9_append_3_6 ?_
  refine mc_V (As := [_]) F hM (cs_J9_ensureCapacityInternal_grow l h_q h_v n_q_v h0 (by omega) h3 hfit) (cwP F 1 q476 q473 q85 q475 (mr_selP F q511 rfl q474 q475 (by decide +kernel)) (by decide +kernel) (mRm_ok (by decide) (by decide))) rfl h_q (ci := 11) rfl rfl rfl hl.1 rfl (Nat.le_of_ble_eq_true rfl) dJ9_append_3_7 ⟨Nat.le_of_ble_eq_true rfl, Nat.le_of_ble_eq_true rfl⟩ (fun ρ7 M7 H locs hP7 hM hz7 => ?_)
  obtain ⟨rfl, u, hq_u, rfl⟩ := hP7
  have n_q_u := kp_ne hq_u h_q
  have h_u := mup_ne (M := mup M0 u (eI (G.2.1 3) (2 * cap + 2) (va_cpy t (fun _ => 0) 0 0 cap))) (e := eO 11 [.ref u, .int (nI 0), .int z, .int (nI nb)]) (Ne.symm n_q_u)
  rw [mup_self] at h_u
  have h_q := nw_self hM
  refine lv_aload_n F.1.1 F.1.2.1 dJ9_append_3_10 rfl (lv_at hl 0 rfl) ?_
  refine mc_Ua (As := []) F hM (cs_J9_isLatin1 l h_q) (va_cwU (owner := "java/lang/AbstractStringBuilder") 0 F.1.2.2.2.2 (lw_U q508 q510 q511 q509 q85 q512) rfl rfl rfl rfl (by decide +kernel) (mRm_ok (by decide) (by decide))) h_q rfl rfl rfl rfl hl.1 rfl (Nat.le_of_ble_eq_true rfl) dJ9_append_3_11 ⟨Nat.le_of_ble_eq_true rfl, Nat.le_of_ble_eq_true rfl⟩ (fun H locs hM => ?_)
  refine mr_ifeqN F (tgt := 45) dJ9_append_3_14 (by decide) (by omega) (fun c14 => ?_) (fun c14 => ?_)
  · exact absurd c14 (by omega)
  · refine lv_iload_n F.1.1 F.1.2.1 dJ9_append_3_17 rfl (lv_at hl 1 rfl) ?_
    refine mc_Sa (As := [_]) F hM (cs_J22_canEncode l (by omega)) (va_cwS 1 F.1.2.2.2.2 (lw_S q1660 q1661 q103 q1662) rfl rfl rfl (by decide +kernel) (mRm_ok (by decide) (by decide))) rfl rfl hl.1 rfl (Nat.le_of_ble_eq_true rfl) dJ9_append_3_18 ⟨Nat.le_of_ble_eq_true rfl, Nat.le_of_ble_eq_true rfl⟩ (fun H locs hM => ?_)
    refine mr_ifeqN F (tgt := 45) dJ9_append_3_21 (by decide) (by omega) (fun c21 => ?_) (fun c21 => ?_)
    · exact absurd c21 (by omega)
    · refine lv_aload_n F.1.1 F.1.2.1 dJ9_append_3_24 rfl (lv_at hl 0 rfl) ?_
      refine cg11 F hM h_q 0 (by decide) q371 (fun x h => h) rfl dJ9_append_3_25 ?_
      refine lv_aload_n F.1.1 F.1.2.1 dJ9_append_3_28 rfl (lv_at hl 0 rfl) ?_
      refine lv_dup F.1.1 F.1.2.1 dJ9_append_3_29 rfl ?_
      refine cg11 F hM h_q 3 (by decide) q375 (fun x h => h) rfl dJ9_append_3_30 ?_
      refine lv_dup_x1 F.1.1 F.1.2.1 dJ9_append_3_33 rfl rfl ?_
      refine mr_iconst F 1 dJ9_append_3_34 (by decide +kernel) ?_
      refine mr_iaddN F dJ9_append_3_35 ?_
      refine cp11 F hM h_q 3 (by decide) q375 (fun x h => h) rfl rfl rfl (Nat.le_of_ble_eq_true rfl) dJ9_append_3_36 (fun H locs hM => ?_)
      have h_u := nw_put hM (Ne.symm n_q_u) h_u
      have h_q := nw_self hM
      refine lv_iload_n F.1.1 F.1.2.1 dJ9_append_3_39 rfl (lv_at hl 1 rfl) ?_
      refine lv_i2b F.1.1 F.1.2.1 dJ9_append_3_40 (sb_all c0 hc).1 ?_
      refine mr_bast F hM h_u (by omega) (by omega) (sb_all c0 hc).2.1 dJ9_append_3_41 (fun H locs hM => ?_)
      have h_q := nw_put hM n_q_u h_q
      have h_u := nw_self hM
      refine lv_goto (tgt := 75) F.1.1 F.1.2.1 dJ9_append_3_42 (by decide) ?_
      refine lv_aload_n F.1.1 F.1.2.1 dJ9_append_3_75 rfl (lv_at hl 0 rfl) ?_
      exact mr_aret F hQ (by first | exact Or.inl ⟨_, rfl⟩ | exact Or.inr ⟨_, rfl⟩) hM ⟨rfl, u, hq_u, mup_5 (Ne.symm n_q_u)⟩ (Nat.le_of_ble_eq_true rfl) (Nat.le_of_ble_eq_true rfl) dJ9_append_3_76
set_option maxHeartbeats 4000000 in
theorem cs_J10_append_3_ok (l : Launch) {G : mG} {M0 : mM} {q v cap nb : Nat} {z : Int32} {t : Nat → Int32} {c0 : Nat} (h_q : M0 q = some (eO 11 [.ref v, .int (nI 0), .int z, .int (nI nb)])) (h_v : M0 v = some (eI (G.2.1 3) cap t)) (n_q_v : q ≠ v) (h1 : nb < cap) (h3 : cap ≤ 100) (hc : c0 < 128) : mMet l yJ10_append_3 (ws_ yJ10_append_3 cJ10_append_3 2 (some (.object "java/lang/StringBuilder"))) (mRm 8 0 0) [.ref q, .int (nI c0)] G (pPre M0) (pPost (mup (mup M0 q (eO 11 [.ref v, .int (nI 0), .int z, .int (nI (nb + 1))])) v (eI (G.2.1 3) cap (va_up t nb (nI c0)))) (some (.ref q))) := by
  refine mMet.of (by decide +kernel) (Nat.le_of_ble_eq_true rfl) fun p e s m args below meth c A Q M hM0 F hnm hQ hM ls hl => ?_
  have hM0 : M0 = M := hM0.symm
  subst hM0
  have hl : lv_has ls 2 [(0, .ref q), (1, .int (nI c0))] := hl
  refine lv_aload_n F.1.1 F.1.2.1 dJ10_append_3_0 rfl (lv_at hl 0 rfl) ?_
  refine lv_iload_n F.1.1 F.1.2.1 dJ10_append_3_1 rfl (lv_at hl 1 rfl) ?_
  refine mc_SUa (As := [_]) F hM (cs_J9_append_3_ok l h_q h_v n_q_v h1 h3 hc) (va_cwSU 1 F.1.2.2.2.2 (lw_SU q1657 q2162 q384 q1658 q85 q1659) rfl rfl rfl (by decide +kernel) (mRm_ok (by decide) (by decide))) h_q (ci := 11) rfl rfl rfl rfl hl.1 rfl (Nat.le_of_ble_eq_true rfl) dJ10_append_3_2 ⟨Nat.le_of_ble_eq_true rfl, Nat.le_of_ble_eq_true rfl⟩ (fun H locs hM => ?_)
  refine lv_pop F.1.1 F.1.2.1 dJ10_append_3_5 rfl ?_
  refine lv_aload_n F.1.1 F.1.2.1 dJ10_append_3_6 rfl (lv_at hl 0 rfl) ?_
  exact mr_aret F hQ (by first | exact Or.inl ⟨_, rfl⟩ | exact Or.inr ⟨_, rfl⟩) hM ⟨rfl, rfl⟩ (Nat.le_of_ble_eq_true rfl) (Nat.le_of_ble_eq_true rfl) dJ10_append_3_7
set_option maxHeartbeats 4000000 in
theorem cs_J10_append_3_grow (l : Launch) {G : mG} {M0 : mM} {q v cap nb : Nat} {z : Int32} {t : Nat → Int32} {c0 : Nat} (h_q : M0 q = some (eO 11 [.ref v, .int (nI 0), .int z, .int (nI nb)])) (h_v : M0 v = some (eI (G.2.1 3) cap t)) (n_q_v : q ≠ v) (h0 : cap < nb + 1) (h1 : nb ≤ 2 * cap) (h3 : cap ≤ 100) (hfit : sb_Fit t) (hc : c0 < 128) : mMet l yJ10_append_3 (ws_ yJ10_append_3 cJ10_append_3 2 (some (.object "java/lang/StringBuilder"))) (mRm 8 1 202) [.ref q, .int (nI c0)] G (pPre M0) (fun _ ρ M1 => ρ = some (.ref q) ∧ ∃ u, M0 u = none ∧ M1 = mup (mup M0 u (eI (G.2.1 3) (2 * cap + 2) (va_up (va_cpy t (fun _ => 0) 0 0 cap) nb (nI c0)))) q (eO 11 [.ref u, .int (nI 0), .int z, .int (nI (nb + 1))])) := by
  refine mMet.of (by decide +kernel) (Nat.le_of_ble_eq_true rfl) fun p e s m args below meth c A Q M hM0 F hnm hQ hM ls hl => ?_
  have hM0 : M0 = M := hM0.symm
  subst hM0
  have hl : lv_has ls 2 [(0, .ref q), (1, .int (nI c0))] := hl
  refine lv_aload_n F.1.1 F.1.2.1 dJ10_append_3_0 rfl (lv_at hl 0 rfl) ?_
  refine lv_iload_n F.1.1 F.1.2.1 dJ10_append_3_1 rfl (lv_at hl 1 rfl) ?_
  refine mc_SU (As := [_]) F hM (cs_J9_append_3_grow l h_q h_v n_q_v h0 h1 h3 hfit hc) (va_cwSU 1 F.1.2.2.2.2 (lw_SU q1657 q2162 q384 q1658 q85 q1659) rfl rfl rfl (by decide +kernel) (mRm_ok (by decide) (by decide))) rfl h_q (ci := 11) rfl rfl rfl hl.1 rfl (Nat.le_of_ble_eq_true rfl) dJ10_append_3_2 ⟨Nat.le_of_ble_eq_true rfl, Nat.le_of_ble_eq_true rfl⟩ (fun ρ2 M2 H locs hP2 hM hz2 => ?_)
  obtain ⟨rfl, u, hq_u, rfl⟩ := hP2
  refine lv_pop F.1.1 F.1.2.1 dJ10_append_3_5 rfl ?_
  refine lv_aload_n F.1.1 F.1.2.1 dJ10_append_3_6 rfl (lv_at hl 0 rfl) ?_
  exact mr_aret F hQ (by first | exact Or.inl ⟨_, rfl⟩ | exact Or.inr ⟨_, rfl⟩) hM ⟨rfl, u, hq_u, rfl⟩ (Nat.le_of_ble_eq_true rfl) (Nat.le_of_ble_eq_true rfl) dJ10_append_3_7
set_option maxHeartbeats 4000000 in
theorem cs_J16_checkIndex_r (l : Launch) {G : mG} {M0 : mM} {i k z0 : Nat} (h1 : i < k) (h2 : k < 100000) : mMet l yJ16_checkIndex (ws_ yJ16_checkIndex cJ16_checkIndex 3 (some .int)) (mRm 1 0 0) [.int (nI i), .int (nI k), .ref z0] G (pPre (M0)) (pPost (M0) (some (.int (nI i)))) := by
  refine mMet.of (by decide +kernel) (Nat.le_of_ble_eq_true rfl) fun p e s m args below meth c A Q M hM0 F hnm hQ hM ls hl => ?_
  have hM0 : M0 = M := hM0.symm
  subst hM0
  have hl : lv_has ls 3 [(0, .int (nI i)), (1, .int (nI k)), (2, .ref z0)] := hl
  refine lv_iload_n F.1.1 F.1.2.1 dJ16_checkIndex_0 rfl (lv_at hl 0 rfl) ?_
  refine lv_if_lt (tgt := 9) F.1.1 F.1.2.1 dJ16_checkIndex_1 (by decide) (fun c1 => ?_) (fun c1 => ?_)
  · exact absurd c1 (nI_neg (by omega))
  · refine lv_iload_n F.1.1 F.1.2.1 dJ16_checkIndex_4 rfl (lv_at hl 0 rfl) ?_
    refine lv_iload_n F.1.1 F.1.2.1 dJ16_checkIndex_5 rfl (lv_at hl 1 rfl) ?_
    refine mr_icmp_ltN F (tgt := 16) dJ16_checkIndex_6 (by decide) (by omega) (by omega) (fun c6 => ?_) (fun c6 => ?_)
    · refine lv_iload_n F.1.1 F.1.2.1 dJ16_checkIndex_16 rfl (lv_at hl 0 rfl) ?_
      exact mr_iret F hQ hM ⟨rfl, rfl⟩ (Nat.le_of_ble_eq_true rfl) (Nat.le_of_ble_eq_true rfl) dJ16_checkIndex_17
    · exact absurd h1 c6
set_option maxHeartbeats 4000000 in
theorem cs_J7_checkIndex (l : Launch) {G : mG} {M0 : mM} {i k : Nat} (h1 : i < k) (h2 : k < 100000) : mMet l yJ7_checkIndex (ws_ yJ7_checkIndex cJ7_checkIndex 2 none) (mRm 2 0 0) [.int (nI i), .int (nI k)] G (pPre (M0)) (pPost (M0) (none)) := by
  refine mMet.of (by decide +kernel) (Nat.le_of_ble_eq_true rfl) fun p e s m args below meth c A Q M hM0 F hnm hQ hM ls hl => ?_
  have hM0 : M0 = M := hM0.symm
  subst hM0
  have hl : lv_has ls 2 [(0, .int (nI i)), (1, .int (nI k))] := hl
  refine lv_iload_n F.1.1 F.1.2.1 dJ7_checkIndex_0 rfl (lv_at hl 0 rfl) ?_
  refine lv_iload_n F.1.1 F.1.2.1 dJ7_checkIndex_1 rfl (lv_at hl 1 rfl) ?_
  refine mr_getsS F hM q525 dJ7_checkIndex_2 ?_ (fun z0 => ?_)
  · refine mc_Sa (As := [_, _, _]) F hM (cs_J16_checkIndex l (by omega) (by omega)) (va_cwS 3 F.1.2.2.2.2 (lw_S q779 q780 q93 q781) rfl rfl rfl (by decide +kernel) (mRm_ok (by decide) (by decide))) rfl rfl hl.1 rfl (Nat.le_of_ble_eq_true rfl) dJ7_checkIndex_5 ⟨Nat.le_of_ble_eq_true rfl, Nat.le_of_ble_eq_true rfl⟩ (fun H locs hM => ?_)
    refine lv_pop F.1.1 F.1.2.1 dJ7_checkIndex_8 rfl ?_
    exact mr_vret F hQ hM ⟨rfl, rfl⟩ (Nat.le_of_ble_eq_true rfl) (Nat.le_of_ble_eq_true rfl) dJ7_checkIndex_9
  · refine mc_Sa (As := [_, _, _]) F hM (cs_J16_checkIndex_r l (by omega) (by omega)) (va_cwS 3 F.1.2.2.2.2 (lw_S q779 q780 q93 q781) rfl rfl rfl (by decide +kernel) (mRm_ok (by decide) (by decide))) rfl rfl hl.1 rfl (Nat.le_of_ble_eq_true rfl) dJ7_checkIndex_5 ⟨Nat.le_of_ble_eq_true rfl, Nat.le_of_ble_eq_true rfl⟩ (fun H locs hM => ?_)
    refine lv_pop F.1.1 F.1.2.1 dJ7_checkIndex_8 rfl ?_
    exact mr_vret F hQ hM ⟨rfl, rfl⟩ (Nat.le_of_ble_eq_true rfl) (Nat.le_of_ble_eq_true rfl) dJ7_checkIndex_9
set_option maxHeartbeats 4000000 in
theorem cs_J9_charAt (l : Launch) {G : mG} {M0 : mM} {q v cap nb : Nat} {z : Int32} {t : Nat → Int32} {c0 : Nat} {j : Nat} (h_q : M0 q = some (eO 11 [.ref v, .int (nI 0), .int z, .int (nI nb)])) (h_v : M0 v = some (eI (G.2.1 3) cap t)) (n_q_v : q ≠ v) (h1 : j < nb) (h2 : nb ≤ cap) (h3 : cap ≤ 100) (hj : t j = nI c0) (hc : c0 < 128) : mMet l yJ9_charAt (ws_ yJ9_charAt cJ9_charAt 5 (some .char)) (mRm 3 0 0) [.ref q, .int (nI j)] G (pPre M0) (pPost M0 (some (.int (nI c0)))) := by
  refine mMet.of (by decide +kernel) (Nat.le_of_ble_eq_true rfl) fun p e s m args below meth c A Q M hM0 F hnm hQ hM ls hl => ?_
  have hM0 : M0 = M := hM0.symm
  subst hM0
  have hl : lv_has ls 5 [(0, .ref q), (1, .int (nI j))] := hl
  refine lv_aload_n F.1.1 F.1.2.1 dJ9_charAt_0 rfl (lv_at hl 0 rfl) ?_
  refine cg11 F hM h_q 1 (by decide) q372 (fun x h => h) rfl dJ9_charAt_1 ?_
  refine lv_istore_n (lv' := [(2, _), (0, _), (1, _)]) F.1.1 F.1.2.1 dJ9_charAt_4 rfl hl (by decide) rfl (fun ls hl => ?_)
  refine lv_aload_n F.1.1 F.1.2.1 dJ9_charAt_5 rfl (lv_at hl 1 rfl) ?_
  refine cg11 F hM h_q 0 (by decide) q371 (fun x h => h) rfl dJ9_charAt_6 ?_
  refine lv_astore_n (lv' := [(3, _), (2, _), (0, _), (1, _)]) F.1.1 F.1.2.1 dJ9_charAt_9 rfl hl (by decide) rfl (fun ls hl => ?_)
  refine lv_aload_n F.1.1 F.1.2.1 dJ9_charAt_10 rfl (lv_at hl 2 rfl) ?_
  refine cg11 F hM h_q 3 (by decide) q375 (fun x h => h) rfl dJ9_charAt_11 ?_
  refine lv_aload_n F.1.1 F.1.2.1 dJ9_charAt_14 rfl (lv_at hl 0 rfl) ?_
  refine mr_alenB F hM h_v dJ9_charAt_15 ?_
  refine lv_iload_n F.1.1 F.1.2.1 dJ9_charAt_16 rfl (lv_at hl 1 rfl) ?_
  refine lv_ishr F.1.1 F.1.2.1 dJ9_charAt_17 ?_
  rw [sb_shrN]
  refine mc_Sa (As := [_, _]) F hM (cs_J18_min l h2 (by omega)) (va_cwS 2 F.1.2.2.2.2 (lw_S q775 q503 q97 q504) rfl rfl rfl (by decide +kernel) (mRm_ok (by decide) (by decide))) rfl rfl hl.1 rfl (Nat.le_of_ble_eq_true rfl) dJ9_charAt_18 ⟨Nat.le_of_ble_eq_true rfl, Nat.le_of_ble_eq_true rfl⟩ (fun H locs hM => ?_)
  refine lv_istore (lv' := [(4, _), (3, _), (2, _), (0, _), (1, _)]) F.1.1 F.1.2.1 dJ9_charAt_21 hl (by decide) rfl (fun ls hl => ?_)
  refine lv_iload_n F.1.1 F.1.2.1 dJ9_charAt_23 rfl (lv_at hl 4 rfl) ?_
  refine lv_iload F.1.1 F.1.2.1 dJ9_charAt_24 (lv_at hl 0 rfl) ?_
  refine mc_Sv (As := [_, _]) F hM (cs_J7_checkIndex l h1 (by omega)) (va_cwS 2 F.1.2.2.2.2 (lw_S q776 q777 q83 q778) rfl rfl rfl (by decide +kernel) (mRm_ok (by decide) (by decide))) rfl rfl hl.1 rfl (Nat.le_of_ble_eq_true rfl) dJ9_charAt_26 ⟨Nat.le_of_ble_eq_true rfl, Nat.le_of_ble_eq_true rfl⟩ (fun H locs hM => ?_)
  refine lv_iload_n F.1.1 F.1.2.1 dJ9_charAt_29 rfl (lv_at hl 2 rfl) ?_
  refine mr_ifneN F (tgt := 42) dJ9_charAt_30 (by decide) (by omega) (fun c30 => ?_) (fun c30 => ?_)
  · exact absurd c30 (by decide)
  · refine lv_aload_n F.1.1 F.1.2.1 dJ9_charAt_33 rfl (lv_at hl 1 rfl) ?_
    refine lv_iload_n F.1.1 F.1.2.1 dJ9_charAt_34 rfl (lv_at hl 4 rfl) ?_
    refine mr_bald F.1.1 F.1.2.1 F.2.1 hM h_v (by omega) (by omega) dJ9_charAt_35 ?_
    rw [hj]
    refine mr_sipush F 255 dJ9_charAt_36 (by decide +kernel) ?_
    refine lv_iand F.1.1 F.1.2.1 dJ9_charAt_39 ?_
    rw [(sb_all c0 hc).2.2.1]
    refine lv_i2c F.1.1 F.1.2.1 dJ9_charAt_40 (sb_all c0 hc).2.2.2.1 ?_
    exact mr_zret F hQ (sb_all c0 hc).2.2.2.2.2 hM ⟨rfl, rfl⟩ (Nat.le_of_ble_eq_true rfl) (Nat.le_of_ble_eq_true rfl) dJ9_charAt_41
set_option maxHeartbeats 4000000 in
theorem cs_J10_charAt (l : Launch) {G : mG} {M0 : mM} {q v cap nb : Nat} {z : Int32} {t : Nat → Int32} {c0 : Nat} {j : Nat} (h_q : M0 q = some (eO 11 [.ref v, .int (nI 0), .int z, .int (nI nb)])) (h_v : M0 v = some (eI (G.2.1 3) cap t)) (n_q_v : q ≠ v) (h1 : j < nb) (h2 : nb ≤ cap) (h3 : cap ≤ 100) (hj : t j = nI c0) (hc : c0 < 128) : mMet l yJ10_charAt (ws_ yJ10_charAt cJ10_charAt 2 (some .char)) (mRm 4 0 0) [.ref q, .int (nI j)] G (pPre M0) (pPost M0 (some (.int (nI c0)))) := by
  refine mMet.of (by decide +kernel) (Nat.le_of_ble_eq_true rfl) fun p e s m args below meth c A Q M hM0 F hnm hQ hM ls hl => ?_
  have hM0 : M0 = M := hM0.symm
  subst hM0
  have hl : lv_has ls 2 [(0, .ref q), (1, .int (nI j))] := hl
  refine lv_aload_n F.1.1 F.1.2.1 dJ10_charAt_0 rfl (lv_at hl 0 rfl) ?_
  refine lv_iload_n F.1.1 F.1.2.1 dJ10_charAt_1 rfl (lv_at hl 1 rfl) ?_
  refine mc_SUa (As := [_]) F hM (cs_J9_charAt l h_q h_v n_q_v h1 h2 h3 hj hc) (va_cwSU 1 F.1.2.2.2.2 (lw_SU q772 q2158 q384 q773 q85 q774) rfl rfl rfl (by decide +kernel) (mRm_ok (by decide) (by decide))) h_q (ci := 11) rfl rfl rfl rfl hl.1 rfl (Nat.le_of_ble_eq_true rfl) dJ10_charAt_2 ⟨Nat.le_of_ble_eq_true rfl, Nat.le_of_ble_eq_true rfl⟩ (fun H locs hM => ?_)
  exact mr_zret F hQ (sb_all c0 hc).2.2.2.2.2 hM ⟨rfl, rfl⟩ (Nat.le_of_ble_eq_true rfl) (Nat.le_of_ble_eq_true rfl) dJ10_charAt_5
set_option maxHeartbeats 4000000 in
theorem cs_J9_setLength (l : Launch) {G : mG} {M0 : mM} {q v cap nb : Nat} {z : Int32} {t : Nat → Int32} (h_q : M0 q = some (eO 11 [.ref v, .int (nI 0), .int z, .int (nI nb)])) (h_v : M0 v = some (eI (G.2.1 3) cap t)) (n_q_v : q ≠ v) (h2 : nb ≤ cap) (h3 : cap ≤ 100) : mMet l yJ9_setLength (ws_ yJ9_setLength cJ9_setLength 2 none) (mRm 22 0 0) [.ref q, .int (nI 0)] G (pPre M0) (fun _ ρ M1 => ρ = none ∧ ∃ z1, (z1 = z ∨ z1 = nI 1) ∧ M1 = mup M0 q (eO 11 [.ref v, .int (nI 0), .int z1, .int (nI 0)])) := by
  refine mMet.of (by decide +kernel) (Nat.le_of_ble_eq_true rfl) fun p e s m args below meth c A Q M hM0 F hnm hQ hM ls hl => ?_
  have hM0 : M0 = M := hM0.symm
  subst hM0
  have hl : lv_has ls 2 [(0, .ref q), (1, .int (nI 0))] := hl
  refine lv_iload_n F.1.1 F.1.2.1 dJ9_setLength_0 rfl (lv_at hl 1 rfl) ?_
  refine lv_if_ge (tgt := 13) F.1.1 F.1.2.1 dJ9_setLength_1 (by decide) (fun c1 => ?_) (fun c1 => ?_)
  · refine lv_aload_n F.1.1 F.1.2.1 dJ9_setLength_13 rfl (lv_at hl 0 rfl) ?_
    refine lv_iload_n F.1.1 F.1.2.1 dJ9_setLength_14 rfl (lv_at hl 1 rfl) ?_
    refine mc_Vv (As := [_]) F hM (cs_J9_ensureCapacityInternal_ok l h_q h_v n_q_v (by omega) h3) (cwP F 1 q476 q473 q85 q475 (mr_selP F q511 rfl q474 q475 (by decide +kernel)) (by decide +kernel) (mRm_ok (by decide) (by decide))) h_q (ci := 11) rfl rfl rfl rfl hl.1 rfl (Nat.le_of_ble_eq_true rfl) dJ9_setLength_15 ⟨Nat.le_of_ble_eq_true rfl, Nat.le_of_ble_eq_true rfl⟩ (fun H locs hM => ?_)
    refine lv_aload_n F.1.1 F.1.2.1 dJ9_setLength_18 rfl (lv_at hl 0 rfl) ?_
    refine cg11 F hM h_q 3 (by decide) q375 (fun x h => h) rfl dJ9_setLength_19 ?_
    refine lv_iload_n F.1.1 F.1.2.1 dJ9_setLength_22 rfl (lv_at hl 1 rfl) ?_
    refine mr_icmp_geN F (tgt := 63) dJ9_setLength_23 (by decide) (by omega) (by omega) (fun c23 => ?_) (fun c23 => ?_)
    · refine lv_aload_n F.1.1 F.1.2.1 dJ9_setLength_63 rfl (lv_at hl 0 rfl) ?_
      refine cg11 F hM h_q 3 (by decide) q375 (fun x h => h) rfl dJ9_setLength_64 ?_
      refine lv_iload_n F.1.1 F.1.2.1 dJ9_setLength_67 rfl (lv_at hl 1 rfl) ?_
      refine mr_icmp_leN F (tgt := 76) dJ9_setLength_68 (by decide) (by omega) (by omega) (fun c68 => ?_) (fun c68 => ?_)
      · refine lv_aload_n F.1.1 F.1.2.1 dJ9_setLength_76 rfl (lv_at hl 0 rfl) ?_
        refine lv_iload_n F.1.1 F.1.2.1 dJ9_setLength_77 rfl (lv_at hl 1 rfl) ?_
        refine cp11 F hM h_q 3 (by decide) q375 (fun x h => h) rfl rfl rfl (Nat.le_of_ble_eq_true rfl) dJ9_setLength_78 (fun H locs hM => ?_)
        have h_v := nw_put hM (Ne.symm n_q_v) h_v
        have h_q := nw_self hM
        exact mr_vret F hQ hM ⟨rfl, z, Or.inl rfl, rfl⟩ (Nat.le_of_ble_eq_true rfl) (Nat.le_of_ble_eq_true rfl) dJ9_setLength_81
      · refine lv_aload_n F.1.1 F.1.2.1 dJ9_setLength_71 rfl (lv_at hl 0 rfl) ?_
        refine mr_iconst F 1 dJ9_setLength_72 (by decide +kernel) ?_
        refine cp11 F hM h_q 2 (by decide) q373 (fun x h => h) rfl (by first | rfl | exact nZ_bI _) (by first | rfl | exact fZ_bI _) (Nat.le_of_ble_eq_true rfl) dJ9_setLength_73 (fun H locs hM => ?_)
        have h_v := nw_put hM (Ne.symm n_q_v) h_v
        have h_q := nw_self hM
        refine lv_aload_n F.1.1 F.1.2.1 dJ9_setLength_76 rfl (lv_at hl 0 rfl) ?_
        refine lv_iload_n F.1.1 F.1.2.1 dJ9_setLength_77 rfl (lv_at hl 1 rfl) ?_
        refine cp11 F hM h_q 3 (by decide) q375 (fun x h => h) rfl rfl rfl (Nat.le_of_ble_eq_true rfl) dJ9_setLength_78 (fun H locs hM => ?_)
        have h_v := nw_put hM (Ne.symm n_q_v) h_v
        have h_q := nw_self hM
        exact mr_vret F hQ hM ⟨rfl, nI 1, Or.inr rfl, mup_mup⟩ (Nat.le_of_ble_eq_true rfl) (Nat.le_of_ble_eq_true rfl) dJ9_setLength_81
    · exact absurd c23 (by omega)
  · exact absurd (by decide) c1
set_option maxHeartbeats 4000000 in
theorem cs_J10_setLength (l : Launch) {G : mG} {M0 : mM} {q v cap nb : Nat} {z : Int32} {t : Nat → Int32} (h_q : M0 q = some (eO 11 [.ref v, .int (nI 0), .int z, .int (nI nb)])) (h_v : M0 v = some (eI (G.2.1 3) cap t)) (n_q_v : q ≠ v) (h2 : nb ≤ cap) (h3 : cap ≤ 100) : mMet l yJ10_setLength (ws_ yJ10_setLength cJ10_setLength 2 none) (mRm 23 0 0) [.ref q, .int (nI 0)] G (pPre M0) (fun _ ρ M1 => ρ = none ∧ ∃ z1, (z1 = z ∨ z1 = nI 1) ∧ M1 = mup M0 q (eO 11 [.ref v, .int (nI 0), .int z1, .int (nI 0)])) := by
  refine mMet.of (by decide +kernel) (Nat.le_of_ble_eq_true rfl) fun p e s m args below meth c A Q M hM0 F hnm hQ hM ls hl => ?_
  have hM0 : M0 = M := hM0.symm
  subst hM0
  have hl : lv_has ls 2 [(0, .ref q), (1, .int (nI 0))] := hl
  refine lv_aload_n F.1.1 F.1.2.1 dJ10_setLength_0 rfl (lv_at hl 0 rfl) ?_
  refine lv_iload_n F.1.1 F.1.2.1 dJ10_setLength_1 rfl (lv_at hl 1 rfl) ?_
  refine mc_SU (As := [_]) F hM (cs_J9_setLength l h_q h_v n_q_v h2 h3) (va_cwSU 1 F.1.2.2.2.2 (lw_SU q451 q2148 q384 q452 q85 q453) rfl rfl rfl (by decide +kernel) (mRm_ok (by decide) (by decide))) rfl h_q (ci := 11) rfl rfl rfl hl.1 rfl (Nat.le_of_ble_eq_true rfl) dJ10_setLength_2 ⟨Nat.le_of_ble_eq_true rfl, Nat.le_of_ble_eq_true rfl⟩ (fun ρ2 M2 H locs hP2 hM hz2 => ?_)
  obtain ⟨rfl, hP2⟩ := hP2
  exact mr_vret F hQ hM ⟨rfl, hP2⟩ (Nat.le_of_ble_eq_true rfl) (Nat.le_of_ble_eq_true rfl) dJ10_setLength_5
set_option maxHeartbeats 4000000 in
theorem cs_J9_init (l : Launch) {G : mG} {M0 : mM} {q : Nat} (h_q : M0 q = some (eO 11 [.null, .int 0, .int 0, .int 0])) : mMet l yJ9_init (ws_ yJ9_init cJ9_init 2 none) (mRm 3 1 16) [.ref q, .int (nI 16)] G (pPre M0) (fun _ ρ M1 => ρ = none ∧ ∃ v, NewB M0 q M1 ∧ M0 v = none ∧ M1 v = some (eI (G.2.1 3) 16 (fun _ => 0)) ∧ M1 q = some (eO 11 [.ref v, .int (nI 0), .int 0, .int (nI 0)])) := by
  refine mMet.of (by decide +kernel) (Nat.le_of_ble_eq_true rfl) fun p e s m args below meth c A Q M hM0 F hnm hQ hM ls hl => ?_
  have hM0 : M0 = M := hM0.symm
  subst hM0
  have hl : lv_has ls 2 [(0, .ref q), (1, .int (nI 16))] := hl
  have hN : NewB M0 q M0 := fun a x h _ => h
  have hb0 := h_q
  refine lv_aload_n F.1.1 F.1.2.1 dJ9_init_0 rfl (lv_at hl 0 rfl) ?_
  refine mr_obj F q361 hl.1 (Nat.le_of_ble_eq_true rfl) (Nat.le_of_ble_eq_true rfl) dJ9_init_1 ?_
  refine mr_getsC F hM q362 dJ9_init_4 ?_
  refine mr_ifeqN F (tgt := 25) dJ9_init_7 (by decide) (by omega) (fun c7 => ?_) (fun c7 => ?_)
  · exact absurd c7 (by decide)
  · refine lv_aload_n F.1.1 F.1.2.1 dJ9_init_10 rfl (lv_at hl 0 rfl) ?_
    refine lv_iload_n F.1.1 F.1.2.1 dJ9_init_11 rfl (lv_at hl 1 rfl) ?_
    refine mr_newb F.1.1 F.1.2.1 F.1.2.2.2.2 q268 F.2.1 hM F.2.2.2.2.1 (Nat.le_of_ble_eq_true rfl) (Nat.le_of_ble_eq_true rfl) (Nat.le_of_ble_eq_true rfl) dJ9_init_12 (fun v H hq_v _ hM => ?_)
    have n_q_v := kp_ne hq_v h_q
    have h_q := nw_new hM hq_v h_q
    have w_v := nw_F hq_v hN
    have z_v := hN.none hb0 hq_v
    have hb0 := nw_new hM hq_v hb0
    have hN := nw_N hM hq_v hN
    have h_v := nw_self hM
    refine cp11 F hM h_q 0 (by decide) q371 (fun x h => h) rfl rfl rfl (Nat.le_of_ble_eq_true rfl) dJ9_init_14 (fun H locs hM => ?_)
    have h_v := nw_put hM (Ne.symm n_q_v) h_v
    have hN := nw_NB hM hN
    have h_q := nw_self hM
    have hb0 := h_q
    refine lv_aload_n F.1.1 F.1.2.1 dJ9_init_17 rfl (lv_at hl 0 rfl) ?_
    refine mr_iconst F 0 dJ9_init_18 (by decide +kernel) ?_
    refine cp11 F hM h_q 1 (by decide) q372 (fun x h => h) rfl rfl rfl (Nat.le_of_ble_eq_true rfl) dJ9_init_19 (fun H locs hM => ?_)
    have h_v := nw_put hM (Ne.symm n_q_v) h_v
    have hN := nw_NB hM hN
    have h_q := nw_self hM
    have hb0 := h_q
    refine lv_goto (tgt := 38) F.1.1 F.1.2.1 dJ9_init_22 (by decide) ?_
    exact mr_vret F hQ hM ⟨rfl, v, hN, z_v, h_v, h_q⟩ (Nat.le_of_ble_eq_true rfl) (Nat.le_of_ble_eq_true rfl) dJ9_init_38
set_option maxHeartbeats 4000000 in
theorem cs_J10_init (l : Launch) {G : mG} {M0 : mM} {q : Nat} (h_q : M0 q = some (eO 11 [.null, .int 0, .int 0, .int 0])) : mMet l yJ10_init (ws_ yJ10_init cJ10_init 1 none) (mRm 4 1 16) [.ref q] G (pPre M0) (fun _ ρ M1 => ρ = none ∧ ∃ v, NewB M0 q M1 ∧ M0 v = none ∧ M1 v = some (eI (G.2.1 3) 16 (fun _ => 0)) ∧ M1 q = some (eO 11 [.ref v, .int (nI 0), .int 0, .int (nI 0)])) := by
  refine mMet.of (by decide +kernel) (Nat.le_of_ble_eq_true rfl) fun p e s m args below meth c A Q M hM0 F hnm hQ hM ls hl => ?_
  have hM0 : M0 = M := hM0.symm
  subst hM0
  have hl : lv_has ls 1 [(0, .ref q)] := hl
  have hN : NewB M0 q M0 := fun a x h _ => h
  have hb0 := h_q
  refine lv_aload_n F.1.1 F.1.2.1 dJ10_init_0 rfl (lv_at hl 0 rfl) ?_
  refine mr_bipush F 16 dJ10_init_1 (by decide +kernel) ?_
  refine mc_I (As := [_]) F hM (cs_J9_init l h_q) (cwI 1 F.1.2.2.2.2 (lw_meth q360) rfl rfl rfl (F.1.2.2.2.2 _ q85) (F.1.2.2.2.2 _ q358) (F.1.2.2.2.2 _ q359) rfl (by decide +kernel) (mRm_ok (by decide) (by decide))) rfl rfl hl.1 rfl (Nat.le_of_ble_eq_true rfl) dJ10_init_3 ⟨Nat.le_of_ble_eq_true rfl, Nat.le_of_ble_eq_true rfl⟩ (fun ρ3 M3 H locs hP3 hM hz3 => ?_)
  obtain ⟨rfl, hP3⟩ := hP3
  exact mr_vret F hQ hM ⟨rfl, hP3⟩ (Nat.le_of_ble_eq_true rfl) (Nat.le_of_ble_eq_true rfl) dJ10_init_6
