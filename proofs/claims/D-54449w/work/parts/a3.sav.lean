/-! DISKPACKS: save -/
set_option maxHeartbeats 4000000 in
theorem cs_X1_save (l : Launch) {G : mG} {M0 : mM} {own : Nat → Nat} {x : Nat} {ad : Nat → Nat} {n : Nat} {r : Nat → Int32} {f : Nat → UInt32} {dv : Nat → Int32} {hs : List zS} {sn : Option zS} {b : Nat → Int32} {nb : Nat}  (hX : xAt G own M0 x (ad, n, r, f, dv) hs sn b nb) : mMet l yX1_save (ws_ yX1_save cX1_save 1 none) (mRm 10 123 2464) [.ref x] G (pPre M0) (fun _ ρ M1 => ρ = none ∧ ∃ (own1 : Nat → Nat) (hs1 : List zS), xAt G own1 M1 x (ad, n, r, f, dv) hs1 sn b nb ∧ xFr own M0 own1 M1 ∧ hs1.map zRF = zPush (hs.map zRF) (r, f)) := by
  refine mMet.of (by decide +kernel) (Nat.le_of_ble_eq_true rfl) fun p e s m args below meth c A Q M hM0 F hnm hQ hM ls hl => ?_
  have hM0 : M0 = M := hM0.symm
  subst hM0
  have hl : lv_has ls 1 [(0, .ref x)] := hl
  obtain ⟨hq, eb, bf, v, a, z, cap, fn, t, hX⟩ := hX
  have h_x : _ = some (eO 0 [.ref (ad 0), zV sn, .ref hq, .ref bf]) := hX.1
  have h_hq := hX.2.1.1
  have h_eb := hX.2.1.2.1
  have n_hq_eb := kd_ne h_hq h_eb (show (10 : Nat) ≠ 101 by decide)
  have h_bf := hX.2.2.1.1
  have h_v := hX.2.2.1.2.1
  have n_bf_v := kd_ne h_bf h_v (show (11 : Nat) ≠ 100 by decide)
  have hS : sAt G ad n r f dv _ := hX.2.2.2.2.1.2.1
  have hz : zOk ad n r f dv := hX.2.2.2.2.1.1
  have hd := hz.1
  have hn := hz.2.1
  have hI := hz.2.2.1
  have ha := hX.2.1.2.2.1
  have hlen := hX.2.1.2.2.2.1
  have hfn := hX.2.1.2.2.2.2
  have hnb := hX.2.2.1.2.2.2.2.1
  have hcap := hX.2.2.1.2.2.2.2.2
  have hF0 : xFr own M0 own M0 := xFr.rf
  by_cases h5 : hs.length = 5
  · obtain ⟨s0, hs1, rfl⟩ : ∃ s0 hs1, hs = s0 :: hs1 := by
      cases hs with
      | nil => cases h5
      | cons y ys => exact ⟨y, ys, rfl⟩
    have hfn0 : fn a = some (s0.1 0) := by
      have q := hfn 0 s0 rfl
      rw [Nat.add_zero, Nat.mod_eq_of_lt ha] at q
      exact q
    have h51 : hs1.length = 4 := by
      rw [List.length_cons] at h5
      omega
    refine lv_aload_n F.1.1 F.1.2.1 dX1_save_0 rfl (lv_at hl 0 rfl) ?_
    refine cg0 F hM h_x 2 (by decide) q387 (fun x h => h) rfl dX1_save_1 ?_
    refine mc_Va (As := []) F hM (cs_J8_size l h_hq h_eb n_hq_eb ha (Nat.mod_lt _ (by decide))) (cwV 0 F.1.2.2.2.2 (lw_V q1020 q1021 q1022 q84 q1023) rfl rfl rfl (by decide +kernel) (mRm_ok (by decide) (by decide))) h_hq rfl rfl rfl rfl hl.1 rfl (Nat.le_of_ble_eq_true rfl) dX1_save_4 ⟨Nat.le_of_ble_eq_true rfl, Nat.le_of_ble_eq_true rfl⟩ (fun H locs hM => ?_)
    refine mr_iconst F 5 dX1_save_7 (by decide +kernel) ?_
    refine mr_icmp_neN F (tgt := 19) dX1_save_8 (by decide) (by omega) (by omega) (fun c8 => ?_) (fun c8 => ?_)
    · exact absurd c8 (by omega)
    · refine lv_aload_n F.1.1 F.1.2.1 dX1_save_11 rfl (lv_at hl 0 rfl) ?_
      refine cg0 F hM h_x 2 (by decide) q387 (fun x h => h) rfl dX1_save_12 ?_
      refine mc_Va (As := []) F hM (cs_J8_removeFirst l h_hq h_eb n_hq_eb ha (Nat.mod_lt _ (by decide)) (hfn0)) (cwV 0 F.1.2.2.2.2 (lw_V q1252 q1253 q1254 q84 q1255) rfl rfl rfl (by decide +kernel) (mRm_ok (by decide) (by decide))) h_hq rfl rfl rfl rfl hl.1 rfl (Nat.le_of_ble_eq_true rfl) dX1_save_15 ⟨Nat.le_of_ble_eq_true rfl, Nat.le_of_ble_eq_true rfl⟩ (fun H locs hM => ?_)
      obtain ⟨hX9, hF9⟩ := hX.popF
      have hX := hX9
      have hF0 := hF0.trans hF9
      have h_x : _ = some (eO 0 [.ref (ad 0), zV sn, .ref hq, .ref bf]) := hX.1
      have h_hq := hX.2.1.1
      have h_eb := hX.2.1.2.1
      have n_hq_eb := kd_ne h_hq h_eb (show (10 : Nat) ≠ 101 by decide)
      have h_bf := hX.2.2.1.1
      have h_v := hX.2.2.1.2.1
      have n_bf_v := kd_ne h_bf h_v (show (11 : Nat) ≠ 100 by decide)
      have hS : sAt G ad n r f dv _ := hX.2.2.2.2.1.2.1
      refine lv_pop F.1.1 F.1.2.1 dX1_save_18 rfl ?_
      refine lv_aload_n F.1.1 F.1.2.1 dX1_save_19 rfl (lv_at hl 0 rfl) ?_
      refine cg0 F hM h_x 2 (by decide) q387 (fun x h => h) rfl dX1_save_20 ?_
      refine lv_aload_n F.1.1 F.1.2.1 dX1_save_23 rfl (lv_at hl 0 rfl) ?_
      refine cg0 F hM h_x 0 (by decide) q385 (fun x h => h) rfl dX1_save_24 ?_
      refine mc_V (As := []) F hM (cs_X2_copy l hn hd hS hI.2.2.2.1 hI.2.2.2.2.2.2.1 hI.2.2.2.2.2.2.2.2.2.1) (cwV 0 F.1.2.2.2.2 (lw_V q1031 q1032 q1033 q71 q1034) rfl rfl rfl (by decide +kernel) (mRm_ok (by decide) (by decide))) rfl (sq_0 hS) rfl rfl rfl hl.1 rfl (Nat.le_of_ble_eq_true rfl) dX1_save_27 ⟨Nat.le_of_ble_eq_true rfl, Nat.le_of_ble_eq_true rfl⟩ (fun ρ27 M27 H locs hP27 hM hz27 => ?_)
      obtain ⟨q, rfl, hP27⟩ := hP27
      obtain ⟨ad2, h02, hqn, hNw, hz2⟩ := zHas.made hP27 hz
      have nq := hX.2.2.2.2.fresh hqn
      have hX9 := hX.new (t0 := q + 2) hNw
      have hF9 := hF0.trans (xFr.new (t0 := q + 2) hNw)
      have hX := hX9
      have hF0 := hF9
      have h_x : _ = some (eO 0 [.ref (ad 0), zV sn, .ref hq, .ref bf]) := hX.1
      have h_hq := hX.2.1.1
      have h_eb := hX.2.1.2.1
      have n_hq_eb := kd_ne h_hq h_eb (show (10 : Nat) ≠ 101 by decide)
      have h_bf := hX.2.2.1.1
      have h_v := hX.2.2.1.2.1
      have n_bf_v := kd_ne h_bf h_v (show (11 : Nat) ≠ 100 by decide)
      have hS : sAt G ad n r f dv _ := hX.2.2.2.2.1.2.1
      have h_q : M27 q = some (eO 1 (sF0 ad2 r)) := by rw [← h02]; exact sq_0 hz2.2.1
      have n_hq_q := kd_ne h_hq h_q (show (10 : Nat) ≠ 1 by decide)
      have n_eb_q := kd_ne h_eb h_q (show (101 : Nat) ≠ 1 by decide)
      refine mc_Vv (As := [_]) F hM (cs_J8_addLast l h_hq h_eb n_hq_eb (Nat.mod_lt _ (by decide)) (Nat.mod_lt _ (by decide)) h_q n_hq_q n_eb_q (by omega)) (cwV 1 F.1.2.2.2.2 (lw_V q1266 q1267 q1268 q84 q1269) rfl rfl rfl (by decide +kernel) (mRm_ok (by decide) (by decide))) h_hq rfl rfl rfl rfl hl.1 rfl (Nat.le_of_ble_eq_true rfl) dX1_save_30 ⟨Nat.le_of_ble_eq_true rfl, Nat.le_of_ble_eq_true rfl⟩ (fun H locs hM => ?_)
      obtain ⟨hX9, hF9⟩ := hX.addL (by omega) hz2 h02 nq
      have hX := hX9
      have hF0 := hF0.trans hF9
      exact mr_vret F hQ hM ⟨rfl, _, hs1 ++ [(ad2, n, r, f, dv)], hX.at, hF0, zPush_f h5 rfl⟩ (Nat.le_of_ble_eq_true rfl) (Nat.le_of_ble_eq_true rfl) dX1_save_33
  · refine lv_aload_n F.1.1 F.1.2.1 dX1_save_0 rfl (lv_at hl 0 rfl) ?_
    refine cg0 F hM h_x 2 (by decide) q387 (fun x h => h) rfl dX1_save_1 ?_
    refine mc_Va (As := []) F hM (cs_J8_size l h_hq h_eb n_hq_eb ha (Nat.mod_lt _ (by decide))) (cwV 0 F.1.2.2.2.2 (lw_V q1020 q1021 q1022 q84 q1023) rfl rfl rfl (by decide +kernel) (mRm_ok (by decide) (by decide))) h_hq rfl rfl rfl rfl hl.1 rfl (Nat.le_of_ble_eq_true rfl) dX1_save_4 ⟨Nat.le_of_ble_eq_true rfl, Nat.le_of_ble_eq_true rfl⟩ (fun H locs hM => ?_)
    refine mr_iconst F 5 dX1_save_7 (by decide +kernel) ?_
    refine mr_icmp_neN F (tgt := 19) dX1_save_8 (by decide) (by omega) (by omega) (fun c8 => ?_) (fun c8 => ?_)
    · refine lv_aload_n F.1.1 F.1.2.1 dX1_save_19 rfl (lv_at hl 0 rfl) ?_
      refine cg0 F hM h_x 2 (by decide) q387 (fun x h => h) rfl dX1_save_20 ?_
      refine lv_aload_n F.1.1 F.1.2.1 dX1_save_23 rfl (lv_at hl 0 rfl) ?_
      refine cg0 F hM h_x 0 (by decide) q385 (fun x h => h) rfl dX1_save_24 ?_
      refine mc_V (As := []) F hM (cs_X2_copy l hn hd hS hI.2.2.2.1 hI.2.2.2.2.2.2.1 hI.2.2.2.2.2.2.2.2.2.1) (cwV 0 F.1.2.2.2.2 (lw_V q1031 q1032 q1033 q71 q1034) rfl rfl rfl (by decide +kernel) (mRm_ok (by decide) (by decide))) rfl (sq_0 hS) rfl rfl rfl hl.1 rfl (Nat.le_of_ble_eq_true rfl) dX1_save_27 ⟨Nat.le_of_ble_eq_true rfl, Nat.le_of_ble_eq_true rfl⟩ (fun ρ27 M27 H locs hP27 hM hz27 => ?_)
      obtain ⟨q, rfl, hP27⟩ := hP27
      obtain ⟨ad2, h02, hqn, hNw, hz2⟩ := zHas.made hP27 hz
      have nq := hX.2.2.2.2.fresh hqn
      have hX9 := hX.new (t0 := q + 2) hNw
      have hF9 := hF0.trans (xFr.new (t0 := q + 2) hNw)
      have hX := hX9
      have hF0 := hF9
      have h_x : _ = some (eO 0 [.ref (ad 0), zV sn, .ref hq, .ref bf]) := hX.1
      have h_hq := hX.2.1.1
      have h_eb := hX.2.1.2.1
      have n_hq_eb := kd_ne h_hq h_eb (show (10 : Nat) ≠ 101 by decide)
      have h_bf := hX.2.2.1.1
      have h_v := hX.2.2.1.2.1
      have n_bf_v := kd_ne h_bf h_v (show (11 : Nat) ≠ 100 by decide)
      have hS : sAt G ad n r f dv _ := hX.2.2.2.2.1.2.1
      have h_q : M27 q = some (eO 1 (sF0 ad2 r)) := by rw [← h02]; exact sq_0 hz2.2.1
      have n_hq_q := kd_ne h_hq h_q (show (10 : Nat) ≠ 1 by decide)
      have n_eb_q := kd_ne h_eb h_q (show (101 : Nat) ≠ 1 by decide)
      refine mc_Vv (As := [_]) F hM (cs_J8_addLast l h_hq h_eb n_hq_eb ha (Nat.mod_lt _ (by decide)) h_q n_hq_q n_eb_q (by omega)) (cwV 1 F.1.2.2.2.2 (lw_V q1266 q1267 q1268 q84 q1269) rfl rfl rfl (by decide +kernel) (mRm_ok (by decide) (by decide))) h_hq rfl rfl rfl rfl hl.1 rfl (Nat.le_of_ble_eq_true rfl) dX1_save_30 ⟨Nat.le_of_ble_eq_true rfl, Nat.le_of_ble_eq_true rfl⟩ (fun H locs hM => ?_)
      obtain ⟨hX9, hF9⟩ := hX.addL (by omega) hz2 h02 nq
      have hX := hX9
      have hF0 := hF0.trans hF9
      exact mr_vret F hQ hM ⟨rfl, _, hs ++ [(ad2, n, r, f, dv)], hX.at, hF0, zPush_n h5 rfl⟩ (Nat.le_of_ble_eq_true rfl) (Nat.le_of_ble_eq_true rfl) dX1_save_33
    · exact absurd c8 (by omega)
