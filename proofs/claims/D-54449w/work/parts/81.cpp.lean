/-! THE SYSTEM: heads made and copied -/
set_option maxHeartbeats 4000000 in
theorem cs_X4_init (l : Launch) {G : mG} {M0 : mM} {q : Nat} : mMet l yX4_init (ws_ yX4_init cX4_init 1 none) (mRm 2 0 0) [.ref q] G (pPre (M0)) (pPost (M0) (none)) := by
  refine mMet.of (by decide +kernel) (Nat.le_of_ble_eq_true rfl) fun p e s m args below meth c A Q M hM0 F hnm hQ hM ls hl => ?_
  have hM0 : M0 = M := hM0.symm
  subst hM0
  have hl : lv_has ls 1 [(0, .ref q)] := hl
  refine lv_aload_n F.1.1 F.1.2.1 dX4_init_0 rfl (lv_at hl 0 rfl) ?_
  refine mr_obj F q164 hl.1 (Nat.le_of_ble_eq_true rfl) (Nat.le_of_ble_eq_true rfl) dX4_init_1 ?_
  exact mr_vret F hQ hM ⟨rfl, rfl⟩ (Nat.le_of_ble_eq_true rfl) (Nat.le_of_ble_eq_true rfl) dX4_init_4
set_option maxHeartbeats 4000000 in
theorem cs_X5_init (l : Launch) {G : mG} {M0 : mM} {q : Nat} : mMet l yX5_init (ws_ yX5_init cX5_init 1 none) (mRm 3 0 0) [.ref q] G (pPre (M0)) (pPost (M0) (none)) := by
  refine mMet.of (by decide +kernel) (Nat.le_of_ble_eq_true rfl) fun p e s m args below meth c A Q M hM0 F hnm hQ hM ls hl => ?_
  have hM0 : M0 = M := hM0.symm
  subst hM0
  have hl : lv_has ls 1 [(0, .ref q)] := hl
  refine lv_aload_n F.1.1 F.1.2.1 dX5_init_0 rfl (lv_at hl 0 rfl) ?_
  refine mc_INv (As := []) F hM (cs_X4_init l ) ⟨va_cnB 0 F.1.2.2.2.2 (lw_meth q163) rfl rfl rfl (mN_w F q161 rfl) (F.1.2.2.2.2 _ q76) (by decide +kernel) (mRm_ok (by decide) (by decide)), rfl, F.1.2.2.2.2 _ q162⟩ rfl rfl hl.1 rfl (Nat.le_of_ble_eq_true rfl) dX5_init_1 ⟨Nat.le_of_ble_eq_true rfl, Nat.le_of_ble_eq_true rfl⟩ (fun H locs hM => ?_)
  exact mr_vret F hQ hM ⟨rfl, rfl⟩ (Nat.le_of_ble_eq_true rfl) (Nat.le_of_ble_eq_true rfl) dX5_init_4
set_option maxHeartbeats 4000000 in
theorem cs_X6_init (l : Launch) {G : mG} {M0 : mM} {q : Nat} : mMet l yX6_init (ws_ yX6_init cX6_init 1 none) (mRm 3 0 0) [.ref q] G (pPre (M0)) (pPost (M0) (none)) := by
  refine mMet.of (by decide +kernel) (Nat.le_of_ble_eq_true rfl) fun p e s m args below meth c A Q M hM0 F hnm hQ hM ls hl => ?_
  have hM0 : M0 = M := hM0.symm
  subst hM0
  have hl : lv_has ls 1 [(0, .ref q)] := hl
  refine lv_aload_n F.1.1 F.1.2.1 dX6_init_0 rfl (lv_at hl 0 rfl) ?_
  refine mc_INv (As := []) F hM (cs_X4_init l ) ⟨va_cnB 0 F.1.2.2.2.2 (lw_meth q163) rfl rfl rfl (mN_w F q191 rfl) (F.1.2.2.2.2 _ q76) (by decide +kernel) (mRm_ok (by decide) (by decide)), rfl, F.1.2.2.2.2 _ q162⟩ rfl rfl hl.1 rfl (Nat.le_of_ble_eq_true rfl) dX6_init_1 ⟨Nat.le_of_ble_eq_true rfl, Nat.le_of_ble_eq_true rfl⟩ (fun H locs hM => ?_)
  exact mr_vret F hQ hM ⟨rfl, rfl⟩ (Nat.le_of_ble_eq_true rfl) (Nat.le_of_ble_eq_true rfl) dX6_init_4
set_option maxHeartbeats 4000000 in
theorem cs_X5_fresh (l : Launch) {G : mG} {M0 : mM} {q0 : Nat} : mMet l yX5_fresh (ws_ yX5_fresh cX5_fresh 1 (some (.object "DiskPacks$Head"))) (mRm 4 1 3) [.ref q0] G (pPre M0) (fun _ ρ M1 => ∃ q, ρ = some (.ref q) ∧ M0 q = none ∧ M1 = mup M0 q (eO 3 [.int 0, .int 0, .int 0])) := by
  refine mMet.of (by decide +kernel) (Nat.le_of_ble_eq_true rfl) fun p e s m args below meth c A Q M hM0 F hnm hQ hM ls hl => ?_
  have hM0 : M0 = M := hM0.symm
  subst hM0
  have hl : lv_has ls 1 [(0, .ref q0)] := hl
  have hN : New M0 M0 := fun a x h => h
  refine cn3 F hM q1071 (Nat.le_of_ble_eq_true rfl) (Nat.le_of_ble_eq_true rfl) dX5_fresh_0 (fun w0 H hq_w0 hM => ?_)
  have w_w0 := nw_F0 hq_w0 hN
  have z_w0 := hN.none hq_w0
  have hN := nw_N0 hM hq_w0 hN
  have h_w0 := nw_self hM
  refine lv_dup F.1.1 F.1.2.1 dX5_fresh_3 rfl ?_
  refine mc_Iv (As := []) F hM (cs_X5_init l ) (cwI 0 F.1.2.2.2.2 (lw_meth q160) rfl rfl rfl (F.1.2.2.2.2 _ q77) (F.1.2.2.2.2 _ q1072) (F.1.2.2.2.2 _ q159) rfl (by decide +kernel) (mRm_ok (by decide) (by decide))) rfl rfl hl.1 rfl (Nat.le_of_ble_eq_true rfl) dX5_fresh_4 ⟨Nat.le_of_ble_eq_true rfl, Nat.le_of_ble_eq_true rfl⟩ (fun H locs hM => ?_)
  exact mr_aret F hQ (by first | exact Or.inl ⟨_, rfl⟩ | exact Or.inr ⟨_, rfl⟩) hM ⟨w0, rfl, hq_w0, rfl⟩ (Nat.le_of_ble_eq_true rfl) (Nat.le_of_ble_eq_true rfl) dX5_fresh_7
set_option maxHeartbeats 4000000 in
theorem cs_X6_fresh (l : Launch) {G : mG} {M0 : mM} {q0 : Nat} : mMet l yX6_fresh (ws_ yX6_fresh cX6_fresh 1 (some (.object "DiskPacks$Head"))) (mRm 4 1 3) [.ref q0] G (pPre M0) (fun _ ρ M1 => ∃ q, ρ = some (.ref q) ∧ M0 q = none ∧ M1 = mup M0 q (eO 4 [.int 0, .int 0, .int 0])) := by
  refine mMet.of (by decide +kernel) (Nat.le_of_ble_eq_true rfl) fun p e s m args below meth c A Q M hM0 F hnm hQ hM ls hl => ?_
  have hM0 : M0 = M := hM0.symm
  subst hM0
  have hl : lv_has ls 1 [(0, .ref q0)] := hl
  have hN : New M0 M0 := fun a x h => h
  refine cn4 F hM q1066 (Nat.le_of_ble_eq_true rfl) (Nat.le_of_ble_eq_true rfl) dX6_fresh_0 (fun w0 H hq_w0 hM => ?_)
  have w_w0 := nw_F0 hq_w0 hN
  have z_w0 := hN.none hq_w0
  have hN := nw_N0 hM hq_w0 hN
  have h_w0 := nw_self hM
  refine lv_dup F.1.1 F.1.2.1 dX6_fresh_3 rfl ?_
  refine mc_Iv (As := []) F hM (cs_X6_init l ) (cwI 0 F.1.2.2.2.2 (lw_meth q190) rfl rfl rfl (F.1.2.2.2.2 _ q78) (F.1.2.2.2.2 _ q1067) (F.1.2.2.2.2 _ q189) rfl (by decide +kernel) (mRm_ok (by decide) (by decide))) rfl rfl hl.1 rfl (Nat.le_of_ble_eq_true rfl) dX6_fresh_4 ⟨Nat.le_of_ble_eq_true rfl, Nat.le_of_ble_eq_true rfl⟩ (fun H locs hM => ?_)
  exact mr_aret F hQ (by first | exact Or.inl ⟨_, rfl⟩ | exact Or.inr ⟨_, rfl⟩) hM ⟨w0, rfl, hq_w0, rfl⟩ (Nat.le_of_ble_eq_true rfl) (Nat.le_of_ble_eq_true rfl) dX6_fresh_7
set_option maxHeartbeats 4000000 in
theorem cs_X4_copy_rHD (l : Launch) {G : mG} {M0 : mM} {ad : Nat → Nat} {n : Nat} {r : Nat → Int32} {f : Nat → UInt32} {dv : Nat → Int32} {d h : Nat} (hS : sAt G ad n r f dv M0) (hs : r (16 + (4 * d + h)) = nI 0 ∨ r (16 + (4 * d + h)) = nI 1) (h1 : d < 4) (h2 : h < 3) : mMet l yX4_copy (ws_ yX4_copy cX4_copy 2 (some (.object "DiskPacks$Head"))) (mRm 5 1 3) [.ref (ad (40 + (4 * d + h)))] G (pPre M0) (fun _ ρ M1 => ∃ q, ρ = some (.ref q) ∧ M0 q = none ∧ New M0 M1 ∧ M1 q = some (eO 4 (sFH r (4 * d + h)))) := by
  refine mMet.of (by decide +kernel) (Nat.le_of_ble_eq_true rfl) fun p e s m args below meth c A Q M hM0 F hnm hQ hM ls hl => ?_
  have hM0 : M0 = M := hM0.symm
  subst hM0
  have hl : lv_has ls 2 [(0, .ref (ad (40 + (4 * d + h))))] := hl
  have hN : New M0 M0 := fun a x h => h
  refine lv_aload_n F.1.1 F.1.2.1 dX4_copy_0 rfl (lv_at hl 0 rfl) ?_
  refine mc_U (As := []) F hM (cs_X6_fresh l ) (va_cwA (owner := "DiskPacks$Head") 0 F.1.2.2.2.2 (lw_U q1060 q1062 q1063 q1064 q78 q1065) rfl rfl rfl (mN_w F q1061 rfl) (by decide +kernel) (mRm_ok (by decide) (by decide))) rfl (sq_HD hS (by omega) (by omega)) rfl rfl rfl hl.1 rfl (Nat.le_of_ble_eq_true rfl) dX4_copy_1 ⟨Nat.le_of_ble_eq_true rfl, Nat.le_of_ble_eq_true rfl⟩ (fun ρ1 M1 H locs hP1 hM hz1 => ?_)
  obtain ⟨w0, rfl, hq_w0, rfl⟩ := hP1
  have o_w0 := hS.out hq_w0
  have hS := nw_S hM hq_w0 hS
  have w_w0 := nw_F0 hq_w0 hN
  have z_w0 := hN.none hq_w0
  have hN := nw_N0 hM hq_w0 hN
  have h_w0 := nw_self hM
  refine lv_astore_n (lv' := [(1, _), (0, _)]) F.1.1 F.1.2.1 dX4_copy_4 rfl hl (by decide) rfl (fun ls hl => ?_)
  refine lv_aload_n F.1.1 F.1.2.1 dX4_copy_5 rfl (lv_at hl 0 rfl) ?_
  refine lv_aload_n F.1.1 F.1.2.1 dX4_copy_6 rfl (lv_at hl 1 rfl) ?_
  refine cg4 F hM (sq_HD hS (by omega) (by omega)) 0 (by decide) q165 (fun x h => h) rfl dX4_copy_7 ?_
  refine cp4 F hM h_w0 0 (by decide) q165 (fun x h => h) rfl rfl rfl (Nat.le_of_ble_eq_true rfl) dX4_copy_10 (fun H locs hM => ?_)
  have hS := nw_SP hM o_w0 hS
  have hN := nw_P0 hM w_w0 hN
  have h_w0 := nw_self hM
  refine lv_aload_n F.1.1 F.1.2.1 dX4_copy_13 rfl (lv_at hl 0 rfl) ?_
  refine lv_aload_n F.1.1 F.1.2.1 dX4_copy_14 rfl (lv_at hl 1 rfl) ?_
  refine cg4 F hM (sq_HD hS (by omega) (by omega)) 1 (by decide) q171 (fun x h => h) rfl dX4_copy_15 ?_
  refine cp4 F hM h_w0 1 (by decide) q171 (fun x h => h) rfl (nZ01 hs) (fZ01 hs) (Nat.le_of_ble_eq_true rfl) dX4_copy_18 (fun H locs hM => ?_)
  have hS := nw_SP hM o_w0 hS
  have hN := nw_P0 hM w_w0 hN
  have h_w0 := nw_self hM
  refine lv_aload_n F.1.1 F.1.2.1 dX4_copy_21 rfl (lv_at hl 0 rfl) ?_
  refine lv_aload_n F.1.1 F.1.2.1 dX4_copy_22 rfl (lv_at hl 1 rfl) ?_
  refine cg4 F hM (sq_HD hS (by omega) (by omega)) 2 (by decide) q175 (fun x h => h) rfl dX4_copy_23 ?_
  refine cp4 F hM h_w0 2 (by decide) q175 (fun x h => h) rfl rfl rfl (Nat.le_of_ble_eq_true rfl) dX4_copy_26 (fun H locs hM => ?_)
  have hS := nw_SP hM o_w0 hS
  have hN := nw_P0 hM w_w0 hN
  have h_w0 := nw_self hM
  refine lv_aload_n F.1.1 F.1.2.1 dX4_copy_29 rfl (lv_at hl 0 rfl) ?_
  exact mr_aret F hQ (by first | exact Or.inl ⟨_, rfl⟩ | exact Or.inr ⟨_, rfl⟩) hM ⟨w0, rfl, z_w0, hN, h_w0⟩ (Nat.le_of_ble_eq_true rfl) (Nat.le_of_ble_eq_true rfl) dX4_copy_30
set_option maxHeartbeats 4000000 in
theorem cs_X4_copy_rHS (l : Launch) {G : mG} {M0 : mM} {ad : Nat → Nat} {n : Nat} {r : Nat → Int32} {f : Nat → UInt32} {dv : Nat → Int32} {d : Nat} (hS : sAt G ad n r f dv M0) (hs : r (16 + (4 * d + 3)) = nI 0 ∨ r (16 + (4 * d + 3)) = nI 1) (h1 : d < 4) : mMet l yX4_copy (ws_ yX4_copy cX4_copy 2 (some (.object "DiskPacks$Head"))) (mRm 5 1 3) [.ref (ad (40 + (4 * d + 3)))] G (pPre M0) (fun _ ρ M1 => ∃ q, ρ = some (.ref q) ∧ M0 q = none ∧ New M0 M1 ∧ M1 q = some (eO 3 (sFH r (4 * d + 3)))) := by
  refine mMet.of (by decide +kernel) (Nat.le_of_ble_eq_true rfl) fun p e s m args below meth c A Q M hM0 F hnm hQ hM ls hl => ?_
  have hM0 : M0 = M := hM0.symm
  subst hM0
  have hl : lv_has ls 2 [(0, .ref (ad (40 + (4 * d + 3))))] := hl
  have hN : New M0 M0 := fun a x h => h
  refine lv_aload_n F.1.1 F.1.2.1 dX4_copy_0 rfl (lv_at hl 0 rfl) ?_
  refine mc_U (As := []) F hM (cs_X5_fresh l ) (va_cwA (owner := "DiskPacks$Head") 0 F.1.2.2.2.2 (lw_U q1060 q1062 q1068 q1069 q77 q1070) rfl rfl rfl (mN_w F q1061 rfl) (by decide +kernel) (mRm_ok (by decide) (by decide))) rfl (sq_HS hS (by omega)) rfl rfl rfl hl.1 rfl (Nat.le_of_ble_eq_true rfl) dX4_copy_1 ⟨Nat.le_of_ble_eq_true rfl, Nat.le_of_ble_eq_true rfl⟩ (fun ρ1 M1 H locs hP1 hM hz1 => ?_)
  obtain ⟨w0, rfl, hq_w0, rfl⟩ := hP1
  have o_w0 := hS.out hq_w0
  have hS := nw_S hM hq_w0 hS
  have w_w0 := nw_F0 hq_w0 hN
  have z_w0 := hN.none hq_w0
  have hN := nw_N0 hM hq_w0 hN
  have h_w0 := nw_self hM
  refine lv_astore_n (lv' := [(1, _), (0, _)]) F.1.1 F.1.2.1 dX4_copy_4 rfl hl (by decide) rfl (fun ls hl => ?_)
  refine lv_aload_n F.1.1 F.1.2.1 dX4_copy_5 rfl (lv_at hl 0 rfl) ?_
  refine lv_aload_n F.1.1 F.1.2.1 dX4_copy_6 rfl (lv_at hl 1 rfl) ?_
  refine cg3 F hM (sq_HS hS (by omega)) 0 (by decide) q165 (fun x h => h) rfl dX4_copy_7 ?_
  refine cp3 F hM h_w0 0 (by decide) q165 (fun x h => h) rfl rfl rfl (Nat.le_of_ble_eq_true rfl) dX4_copy_10 (fun H locs hM => ?_)
  have hS := nw_SP hM o_w0 hS
  have hN := nw_P0 hM w_w0 hN
  have h_w0 := nw_self hM
  refine lv_aload_n F.1.1 F.1.2.1 dX4_copy_13 rfl (lv_at hl 0 rfl) ?_
  refine lv_aload_n F.1.1 F.1.2.1 dX4_copy_14 rfl (lv_at hl 1 rfl) ?_
  refine cg3 F hM (sq_HS hS (by omega)) 1 (by decide) q171 (fun x h => h) rfl dX4_copy_15 ?_
  refine cp3 F hM h_w0 1 (by decide) q171 (fun x h => h) rfl (nZ01 hs) (fZ01 hs) (Nat.le_of_ble_eq_true rfl) dX4_copy_18 (fun H locs hM => ?_)
  have hS := nw_SP hM o_w0 hS
  have hN := nw_P0 hM w_w0 hN
  have h_w0 := nw_self hM
  refine lv_aload_n F.1.1 F.1.2.1 dX4_copy_21 rfl (lv_at hl 0 rfl) ?_
  refine lv_aload_n F.1.1 F.1.2.1 dX4_copy_22 rfl (lv_at hl 1 rfl) ?_
  refine cg3 F hM (sq_HS hS (by omega)) 2 (by decide) q175 (fun x h => h) rfl dX4_copy_23 ?_
  refine cp3 F hM h_w0 2 (by decide) q175 (fun x h => h) rfl rfl rfl (Nat.le_of_ble_eq_true rfl) dX4_copy_26 (fun H locs hM => ?_)
  have hS := nw_SP hM o_w0 hS
  have hN := nw_P0 hM w_w0 hN
  have h_w0 := nw_self hM
  refine lv_aload_n F.1.1 F.1.2.1 dX4_copy_29 rfl (lv_at hl 0 rfl) ?_
  exact mr_aret F hQ (by first | exact Or.inl ⟨_, rfl⟩ | exact Or.inr ⟨_, rfl⟩) hM ⟨w0, rfl, z_w0, hN, h_w0⟩ (Nat.le_of_ble_eq_true rfl) (Nat.le_of_ble_eq_true rfl) dX4_copy_30
