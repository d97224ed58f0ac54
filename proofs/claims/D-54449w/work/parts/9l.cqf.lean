/-! THE TEXT READER: the orders -/
set_option maxHeartbeats 4000000 in
theorem cs_X10_mounting (l : Launch) {G : mG} {M0 : mM} {rd x q v eb cap nb pl mn : Nat} {z : Int32} {t b : Nat → Int32} {w : Bool} {vs vn vq : Value} {u0 : Int32} (h_rd : M0 rd = some (eO 8 [.int (nI pl), .int (rW w), .ref eb, .int (nI mn), .ref x])) (h_x : M0 x = some (eO 0 [vs, vn, vq, .ref q])) (h_q : M0 q = some (eO 11 [.ref v, .int (nI 0), .int z, .int (nI nb)])) (h_v : M0 v = some (eI (G.2.1 3) cap t)) (n_q_v : q ≠ v) (n_rd_x : rd ≠ x) (n_rd_q : rd ≠ q) (n_rd_v : rd ≠ v) (h2 : nb ≤ cap) (h3 : cap ≤ 100) (hpl : pl ≤ 100) (hb : rTx b t nb) (hpl3 : pl ≤ nb) (hnb : nb ≤ 60) : mMet l yX10_mounting (ws_ yX10_mounting cX10_mounting 3 (some (.object "DiskPacks$Order"))) (mRm 8 1 2) [.ref rd, .int u0] G (pPre M0) (fun _ ρ M1 => ∃ (o : Nat) (u1 : Int32), ρ = some (.ref o) ∧ M0 o = none ∧ ((rWA b nb 61 5 pl w) = true → u1 = (rNA b nb 61 5 pl w).2) ∧ M1 = mup (mup M0 rd (eO 8 [.int (nI (rNA b nb 61 5 pl w).1), .int (rW (rWA b nb 61 5 pl w)), .ref eb, .int (nI mn), .ref x])) o (Sum.inr (lamC (G.2.1 (20 + 0)) [.int u0, .int u1]) : mE)) := by
  refine mMet.ofN (by decide +kernel) (Nat.le_of_ble_eq_true rfl) fun p e s m args below meth c A Q M hM0 F hnm hQ hM ls hl => ?_
  have hM0 : M0 = M := hM0.symm
  subst hM0
  have hl : lv_has ls 3 [(0, .ref rd), (1, .int u0)] := hl
  refine lv_aload_n F.1.1 F.1.2.1 dX10_mounting_0 rfl (lv_at hl 0 rfl) ?_
  refine mr_bipush F 61 dX10_mounting_1 (by decide +kernel) ?_
  refine mr_iconst F 5 dX10_mounting_3 (by decide +kernel) ?_
  refine mc_V (As := [_, _]) F hM (cs_X10_after l h_rd h_x h_q h_v n_q_v n_rd_x n_rd_q n_rd_v h2 h3 hpl hb (by omega) (by decide) (by decide) (by decide)) (cwV 2 F.1.2.2.2.2 (lw_V q791 q793 qs5 q106 q794) rfl rfl rfl (by decide +kernel) (mRm_ok (by decide) (by decide))) rfl h_rd rfl rfl rfl hl.1 rfl (Nat.le_of_ble_eq_true rfl) dX10_mounting_4 ⟨Nat.le_of_ble_eq_true rfl, Nat.le_of_ble_eq_true rfl⟩ (fun ρ4 M4 H locs hP4 hM hz4 => ?_)
  obtain ⟨u1, rfl, hu1, rfl⟩ := hP4
  have h_x := nw_put hM (Ne.symm n_rd_x) h_x
  have h_q := nw_put hM (Ne.symm n_rd_q) h_q
  have h_v := nw_put hM (Ne.symm n_rd_v) h_v
  have h_rd := nw_self hM
  refine lv_istore_n (lv' := [(2, _), (0, _), (1, _)]) F.1.1 F.1.2.1 dX10_mounting_7 rfl hl (by decide) rfl (fun ls hl => ?_)
  refine lv_iload_n F.1.1 F.1.2.1 dX10_mounting_8 rfl (lv_at hl 2 rfl) ?_
  refine lv_iload_n F.1.1 F.1.2.1 dX10_mounting_9 rfl (lv_at hl 0 rfl) ?_
  refine mr_lam F hM 0 rfl hnm (tys := #[.int, .int]) (by decide +kernel) (vals := [.int _, .int _]) rfl rfl (lf2 rfl rfl) rfl (Nat.le_of_ble_eq_true rfl) hl.1 (Nat.le_of_ble_eq_true rfl) (Nat.le_of_ble_eq_true rfl) (Nat.le_of_ble_eq_true rfl) dX10_mounting_10 (fun o H hq_o _ hM => ?_)
  have n_rd_o := kp_ne hq_o h_rd
  have n_x_o := kp_ne hq_o h_x
  have n_q_o := kp_ne hq_o h_q
  have n_v_o := kp_ne hq_o h_v
  have h_rd := nw_new hM hq_o h_rd
  have h_x := nw_new hM hq_o h_x
  have h_q := nw_new hM hq_o h_q
  have h_v := nw_new hM hq_o h_v
  have h_o := nw_self hM
  exact mr_aret F hQ (by first | exact Or.inl ⟨_, rfl⟩ | exact Or.inr ⟨_, rfl⟩) hM ⟨o, u1, rfl, mup_none hq_o, hu1, rfl⟩ (Nat.le_of_ble_eq_true rfl) (Nat.le_of_ble_eq_true rfl) dX10_mounting_15
set_option maxHeartbeats 4000000 in
theorem cs_X10_seeking (l : Launch) {G : mG} {M0 : mM} {rd x q v eb cap nb pl mn : Nat} {z : Int32} {t b : Nat → Int32} {w : Bool} {vs vn vq : Value} {u0 : Int32} (h_rd : M0 rd = some (eO 8 [.int (nI pl), .int (rW w), .ref eb, .int (nI mn), .ref x])) (h_x : M0 x = some (eO 0 [vs, vn, vq, .ref q])) (h_q : M0 q = some (eO 11 [.ref v, .int (nI 0), .int z, .int (nI nb)])) (h_v : M0 v = some (eI (G.2.1 3) cap t)) (n_q_v : q ≠ v) (n_rd_x : rd ≠ x) (n_rd_q : rd ≠ q) (n_rd_v : rd ≠ v) (h2 : nb ≤ cap) (h3 : cap ≤ 100) (hpl : pl ≤ 100) (hb : rTx b t nb) (hpl3 : pl ≤ nb) (hnb : nb ≤ 60) : mMet l yX10_seeking (ws_ yX10_seeking cX10_seeking 3 (some (.object "DiskPacks$Order"))) (mRm 8 1 2) [.ref rd, .int u0] G (pPre M0) (fun _ ρ M1 => ∃ (o : Nat) (u1 : Int32), ρ = some (.ref o) ∧ M0 o = none ∧ ((rWA b nb 58 39 pl w) = true → u1 = (rNA b nb 58 39 pl w).2) ∧ M1 = mup (mup M0 rd (eO 8 [.int (nI (rNA b nb 58 39 pl w).1), .int (rW (rWA b nb 58 39 pl w)), .ref eb, .int (nI mn), .ref x])) o (Sum.inr (lamC (G.2.1 (20 + 5)) [.int u0, .int u1]) : mE)) := by
  refine mMet.ofN (by decide +kernel) (Nat.le_of_ble_eq_true rfl) fun p e s m args below meth c A Q M hM0 F hnm hQ hM ls hl => ?_
  have hM0 : M0 = M := hM0.symm
  subst hM0
  have hl : lv_has ls 3 [(0, .ref rd), (1, .int u0)] := hl
  refine lv_aload_n F.1.1 F.1.2.1 dX10_seeking_0 rfl (lv_at hl 0 rfl) ?_
  refine mr_bipush F 58 dX10_seeking_1 (by decide +kernel) ?_
  refine mr_bipush F 39 dX10_seeking_3 (by decide +kernel) ?_
  refine mc_V (As := [_, _]) F hM (cs_X10_after l h_rd h_x h_q h_v n_q_v n_rd_x n_rd_q n_rd_v h2 h3 hpl hb (by omega) (by decide) (by decide) (by decide)) (cwV 2 F.1.2.2.2.2 (lw_V q791 q793 qs5 q106 q794) rfl rfl rfl (by decide +kernel) (mRm_ok (by decide) (by decide))) rfl h_rd rfl rfl rfl hl.1 rfl (Nat.le_of_ble_eq_true rfl) dX10_seeking_5 ⟨Nat.le_of_ble_eq_true rfl, Nat.le_of_ble_eq_true rfl⟩ (fun ρ5 M5 H locs hP5 hM hz5 => ?_)
  obtain ⟨u1, rfl, hu1, rfl⟩ := hP5
  have h_x := nw_put hM (Ne.symm n_rd_x) h_x
  have h_q := nw_put hM (Ne.symm n_rd_q) h_q
  have h_v := nw_put hM (Ne.symm n_rd_v) h_v
  have h_rd := nw_self hM
  refine lv_istore_n (lv' := [(2, _), (0, _), (1, _)]) F.1.1 F.1.2.1 dX10_seeking_8 rfl hl (by decide) rfl (fun ls hl => ?_)
  refine lv_iload_n F.1.1 F.1.2.1 dX10_seeking_9 rfl (lv_at hl 2 rfl) ?_
  refine lv_iload_n F.1.1 F.1.2.1 dX10_seeking_10 rfl (lv_at hl 0 rfl) ?_
  refine mr_lam F hM 5 rfl hnm (tys := #[.int, .int]) (by decide +kernel) (vals := [.int _, .int _]) rfl rfl (lf2 rfl rfl) rfl (Nat.le_of_ble_eq_true rfl) hl.1 (Nat.le_of_ble_eq_true rfl) (Nat.le_of_ble_eq_true rfl) (Nat.le_of_ble_eq_true rfl) dX10_seeking_11 (fun o H hq_o _ hM => ?_)
  have n_rd_o := kp_ne hq_o h_rd
  have n_x_o := kp_ne hq_o h_x
  have n_q_o := kp_ne hq_o h_q
  have n_v_o := kp_ne hq_o h_v
  have h_rd := nw_new hM hq_o h_rd
  have h_x := nw_new hM hq_o h_x
  have h_q := nw_new hM hq_o h_q
  have h_v := nw_new hM hq_o h_v
  have h_o := nw_self hM
  exact mr_aret F hQ (by first | exact Or.inl ⟨_, rfl⟩ | exact Or.inr ⟨_, rfl⟩) hM ⟨o, u1, rfl, mup_none hq_o, hu1, rfl⟩ (Nat.le_of_ble_eq_true rfl) (Nat.le_of_ble_eq_true rfl) dX10_seeking_16
set_option maxHeartbeats 4000000 in
theorem cs_X10_reading (l : Launch) {G : mG} {M0 : mM} {rd x q v eb cap nb pl mn : Nat} {z : Int32} {t b : Nat → Int32} {w : Bool} {vs vn vq : Value} {u0 : Int32} (h_rd : M0 rd = some (eO 8 [.int (nI pl), .int (rW w), .ref eb, .int (nI mn), .ref x])) (h_x : M0 x = some (eO 0 [vs, vn, vq, .ref q])) (h_q : M0 q = some (eO 11 [.ref v, .int (nI 0), .int z, .int (nI nb)])) (h_v : M0 v = some (eI (G.2.1 3) cap t)) (n_q_v : q ≠ v) (n_rd_x : rd ≠ x) (n_rd_q : rd ≠ q) (n_rd_v : rd ≠ v) (h2 : nb ≤ cap) (h3 : cap ≤ 100) (hpl : pl ≤ 100) (hb : rTx b t nb) (hpl3 : pl ≤ nb) (hnb : nb ≤ 60) : mMet l yX10_reading (ws_ yX10_reading cX10_reading 3 (some (.object "DiskPacks$Order"))) (mRm 8 1 2) [.ref rd, .int u0] G (pPre M0) (fun _ ρ M1 => ∃ (o : Nat) (u1 : Int32), ρ = some (.ref o) ∧ M0 o = none ∧ ((rWA b nb 46 2 pl w) = true → u1 = (rNA b nb 46 2 pl w).2) ∧ M1 = mup (mup M0 rd (eO 8 [.int (nI (rNA b nb 46 2 pl w).1), .int (rW (rWA b nb 46 2 pl w)), .ref eb, .int (nI mn), .ref x])) o (Sum.inr (lamC (G.2.1 (20 + 7)) [.int u0, .int u1]) : mE)) := by
  refine mMet.ofN (by decide +kernel) (Nat.le_of_ble_eq_true rfl) fun p e s m args below meth c A Q M hM0 F hnm hQ hM ls hl => ?_
  have hM0 : M0 = M := hM0.symm
  subst hM0
  have hl : lv_has ls 3 [(0, .ref rd), (1, .int u0)] := hl
  refine lv_aload_n F.1.1 F.1.2.1 dX10_reading_0 rfl (lv_at hl 0 rfl) ?_
  refine mr_bipush F 46 dX10_reading_1 (by decide +kernel) ?_
  refine mr_iconst F 2 dX10_reading_3 (by decide +kernel) ?_
  refine mc_V (As := [_, _]) F hM (cs_X10_after l h_rd h_x h_q h_v n_q_v n_rd_x n_rd_q n_rd_v h2 h3 hpl hb (by omega) (by decide) (by decide) (by decide)) (cwV 2 F.1.2.2.2.2 (lw_V q791 q793 qs5 q106 q794) rfl rfl rfl (by decide +kernel) (mRm_ok (by decide) (by decide))) rfl h_rd rfl rfl rfl hl.1 rfl (Nat.le_of_ble_eq_true rfl) dX10_reading_4 ⟨Nat.le_of_ble_eq_true rfl, Nat.le_of_ble_eq_true rfl⟩ (fun ρ4 M4 H locs hP4 hM hz4 => ?_)
  obtain ⟨u1, rfl, hu1, rfl⟩ := hP4
  have h_x := nw_put hM (Ne.symm n_rd_x) h_x
  have h_q := nw_put hM (Ne.symm n_rd_q) h_q
  have h_v := nw_put hM (Ne.symm n_rd_v) h_v
  have h_rd := nw_self hM
  refine lv_istore_n (lv' := [(2, _), (0, _), (1, _)]) F.1.1 F.1.2.1 dX10_reading_7 rfl hl (by decide) rfl (fun ls hl => ?_)
  refine lv_iload_n F.1.1 F.1.2.1 dX10_reading_8 rfl (lv_at hl 2 rfl) ?_
  refine lv_iload_n F.1.1 F.1.2.1 dX10_reading_9 rfl (lv_at hl 0 rfl) ?_
  refine mr_lam F hM 7 rfl hnm (tys := #[.int, .int]) (by decide +kernel) (vals := [.int _, .int _]) rfl rfl (lf2 rfl rfl) rfl (Nat.le_of_ble_eq_true rfl) hl.1 (Nat.le_of_ble_eq_true rfl) (Nat.le_of_ble_eq_true rfl) (Nat.le_of_ble_eq_true rfl) dX10_reading_10 (fun o H hq_o _ hM => ?_)
  have n_rd_o := kp_ne hq_o h_rd
  have n_x_o := kp_ne hq_o h_x
  have n_q_o := kp_ne hq_o h_q
  have n_v_o := kp_ne hq_o h_v
  have h_rd := nw_new hM hq_o h_rd
  have h_x := nw_new hM hq_o h_x
  have h_q := nw_new hM hq_o h_q
  have h_v := nw_new hM hq_o h_v
  have h_o := nw_self hM
  exact mr_aret F hQ (by first | exact Or.inl ⟨_, rfl⟩ | exact Or.inr ⟨_, rfl⟩) hM ⟨o, u1, rfl, mup_none hq_o, hu1, rfl⟩ (Nat.le_of_ble_eq_true rfl) (Nat.le_of_ble_eq_true rfl) dX10_reading_15
set_option maxHeartbeats 4000000 in
theorem cs_X10_mending (l : Launch) {G : mG} {M0 : mM} {rd x q v eb cap nb pl mn : Nat} {z : Int32} {t b : Nat → Int32} {w : Bool} {vs vn vq : Value} {u0 : Int32} (h_rd : M0 rd = some (eO 8 [.int (nI pl), .int (rW w), .ref eb, .int (nI mn), .ref x])) (h_x : M0 x = some (eO 0 [vs, vn, vq, .ref q])) (h_q : M0 q = some (eO 11 [.ref v, .int (nI 0), .int z, .int (nI nb)])) (h_v : M0 v = some (eI (G.2.1 3) cap t)) (n_q_v : q ≠ v) (n_rd_x : rd ≠ x) (n_rd_q : rd ≠ q) (n_rd_v : rd ≠ v) (h2 : nb ≤ cap) (h3 : cap ≤ 100) (hpl : pl ≤ 100) (hb : rTx b t nb) (hpl3 : pl ≤ nb) (hnb : nb ≤ 60) : mMet l yX10_mending (ws_ yX10_mending cX10_mending 3 (some (.object "DiskPacks$Order"))) (mRm 8 1 2) [.ref rd, .int u0] G (pPre M0) (fun _ ρ M1 => ∃ (o : Nat) (u1 : Int32), ρ = some (.ref o) ∧ M0 o = none ∧ ((rWA b nb 46 3 pl w) = true → u1 = (rNA b nb 46 3 pl w).2) ∧ M1 = mup (mup M0 rd (eO 8 [.int (nI (rNA b nb 46 3 pl w).1), .int (rW (rWA b nb 46 3 pl w)), .ref eb, .int (nI mn), .ref x])) o (Sum.inr (lamC (G.2.1 (20 + 10)) [.int u0, .int u1]) : mE)) := by
  refine mMet.ofN (by decide +kernel) (Nat.le_of_ble_eq_true rfl) fun p e s m args below meth c A Q M hM0 F hnm hQ hM ls hl => ?_
  have hM0 : M0 = M := hM0.symm
  subst hM0
  have hl : lv_has ls 3 [(0, .ref rd), (1, .int u0)] := hl
  refine lv_aload_n F.1.1 F.1.2.1 dX10_mending_0 rfl (lv_at hl 0 rfl) ?_
  refine mr_bipush F 46 dX10_mending_1 (by decide +kernel) ?_
  refine mr_iconst F 3 dX10_mending_3 (by decide +kernel) ?_
  refine mc_V (As := [_, _]) F hM (cs_X10_after l h_rd h_x h_q h_v n_q_v n_rd_x n_rd_q n_rd_v h2 h3 hpl hb (by omega) (by decide) (by decide) (by decide)) (cwV 2 F.1.2.2.2.2 (lw_V q791 q793 qs5 q106 q794) rfl rfl rfl (by decide +kernel) (mRm_ok (by decide) (by decide))) rfl h_rd rfl rfl rfl hl.1 rfl (Nat.le_of_ble_eq_true rfl) dX10_mending_4 ⟨Nat.le_of_ble_eq_true rfl, Nat.le_of_ble_eq_true rfl⟩ (fun ρ4 M4 H locs hP4 hM hz4 => ?_)
  obtain ⟨u1, rfl, hu1, rfl⟩ := hP4
  have h_x := nw_put hM (Ne.symm n_rd_x) h_x
  have h_q := nw_put hM (Ne.symm n_rd_q) h_q
  have h_v := nw_put hM (Ne.symm n_rd_v) h_v
  have h_rd := nw_self hM
  refine lv_istore_n (lv' := [(2, _), (0, _), (1, _)]) F.1.1 F.1.2.1 dX10_mending_7 rfl hl (by decide) rfl (fun ls hl => ?_)
  refine lv_iload_n F.1.1 F.1.2.1 dX10_mending_8 rfl (lv_at hl 2 rfl) ?_
  refine lv_iload_n F.1.1 F.1.2.1 dX10_mending_9 rfl (lv_at hl 0 rfl) ?_
  refine mr_lam F hM 10 rfl hnm (tys := #[.int, .int]) (by decide +kernel) (vals := [.int _, .int _]) rfl rfl (lf2 rfl rfl) rfl (Nat.le_of_ble_eq_true rfl) hl.1 (Nat.le_of_ble_eq_true rfl) (Nat.le_of_ble_eq_true rfl) (Nat.le_of_ble_eq_true rfl) dX10_mending_10 (fun o H hq_o _ hM => ?_)
  have n_rd_o := kp_ne hq_o h_rd
  have n_x_o := kp_ne hq_o h_x
  have n_q_o := kp_ne hq_o h_q
  have n_v_o := kp_ne hq_o h_v
  have h_rd := nw_new hM hq_o h_rd
  have h_x := nw_new hM hq_o h_x
  have h_q := nw_new hM hq_o h_q
  have h_v := nw_new hM hq_o h_v
  have h_o := nw_self hM
  exact mr_aret F hQ (by first | exact Or.inl ⟨_, rfl⟩ | exact Or.inr ⟨_, rfl⟩) hM ⟨o, u1, rfl, mup_none hq_o, hu1, rfl⟩ (Nat.le_of_ble_eq_true rfl) (Nat.le_of_ble_eq_true rfl) dX10_mending_15
set_option maxHeartbeats 4000000 in
theorem cs_X10_unmounting (l : Launch) {G : mG} {M0 : mM} {rd : Nat} {u0 : Int32} : mMet l yX10_unmounting (ws_ yX10_unmounting cX10_unmounting 2 (some (.object "DiskPacks$Order"))) (mRm 1 1 2) [.ref rd, .int u0] G (pPre M0) (fun _ ρ M1 => ∃ o : Nat, ρ = some (.ref o) ∧ M0 o = none ∧ M1 = mup M0 o (Sum.inr (lamC (G.2.1 (20 + 4)) [.int u0]) : mE)) := by
  refine mMet.ofN (by decide +kernel) (Nat.le_of_ble_eq_true rfl) fun p e s m args below meth c A Q M hM0 F hnm hQ hM ls hl => ?_
  have hM0 : M0 = M := hM0.symm
  subst hM0
  have hl : lv_has ls 2 [(0, .ref rd), (1, .int u0)] := hl
  refine lv_iload_n F.1.1 F.1.2.1 dX10_unmounting_0 rfl (lv_at hl 1 rfl) ?_
  refine mr_lam F hM 4 rfl hnm (tys := #[.int]) (by decide +kernel) (vals := [.int _]) rfl rfl (lf1 rfl) rfl (Nat.le_of_ble_eq_true rfl) hl.1 (Nat.le_of_ble_eq_true rfl) (Nat.le_of_ble_eq_true rfl) (Nat.le_of_ble_eq_true rfl) dX10_unmounting_1 (fun o H hq_o _ hM => ?_)
  have h_o := nw_self hM
  exact mr_aret F hQ (by first | exact Or.inl ⟨_, rfl⟩ | exact Or.inr ⟨_, rfl⟩) hM ⟨o, rfl, hq_o, rfl⟩ (Nat.le_of_ble_eq_true rfl) (Nat.le_of_ble_eq_true rfl) dX10_unmounting_6
set_option maxHeartbeats 4000000 in
theorem cs_X10_polishing (l : Launch) {G : mG} {M0 : mM} {rd : Nat} {u0 : Int32} : mMet l yX10_polishing (ws_ yX10_polishing cX10_polishing 2 (some (.object "DiskPacks$Order"))) (mRm 1 1 2) [.ref rd, .int u0] G (pPre M0) (fun _ ρ M1 => ∃ o : Nat, ρ = some (.ref o) ∧ M0 o = none ∧ M1 = mup M0 o (Sum.inr (lamC (G.2.1 (20 + 9)) [.int u0]) : mE)) := by
  refine mMet.ofN (by decide +kernel) (Nat.le_of_ble_eq_true rfl) fun p e s m args below meth c A Q M hM0 F hnm hQ hM ls hl => ?_
  have hM0 : M0 = M := hM0.symm
  subst hM0
  have hl : lv_has ls 2 [(0, .ref rd), (1, .int u0)] := hl
  refine lv_iload_n F.1.1 F.1.2.1 dX10_polishing_0 rfl (lv_at hl 1 rfl) ?_
  refine mr_lam F hM 9 rfl hnm (tys := #[.int]) (by decide +kernel) (vals := [.int _]) rfl rfl (lf1 rfl) rfl (Nat.le_of_ble_eq_true rfl) hl.1 (Nat.le_of_ble_eq_true rfl) (Nat.le_of_ble_eq_true rfl) (Nat.le_of_ble_eq_true rfl) dX10_polishing_1 (fun o H hq_o _ hM => ?_)
  have h_o := nw_self hM
  exact mr_aret F hQ (by first | exact Or.inl ⟨_, rfl⟩ | exact Or.inr ⟨_, rfl⟩) hM ⟨o, rfl, hq_o, rfl⟩ (Nat.le_of_ble_eq_true rfl) (Nat.le_of_ble_eq_true rfl) dX10_polishing_6
set_option maxHeartbeats 4000000 in
theorem cs_X10_writing (l : Launch) {G : mG} {M0 : mM} {rd x q v eb cap nb pl mn : Nat} {z : Int32} {t b : Nat → Int32} {w : Bool} {vs vn vq : Value} {u0 : Int32} (h_rd : M0 rd = some (eO 8 [.int (nI pl), .int (rW w), .ref eb, .int (nI mn), .ref x])) (h_x : M0 x = some (eO 0 [vs, vn, vq, .ref q])) (h_q : M0 q = some (eO 11 [.ref v, .int (nI 0), .int z, .int (nI nb)])) (h_v : M0 v = some (eI (G.2.1 3) cap t)) (n_q_v : q ≠ v) (n_rd_x : rd ≠ x) (n_rd_q : rd ≠ q) (n_rd_v : rd ≠ v) (h2 : nb ≤ cap) (h3 : cap ≤ 100) (hpl : pl ≤ 100) (hb : rTx b t nb) (hpl3 : pl ≤ nb) (hnb : nb ≤ 60) : mMet l yX10_writing (ws_ yX10_writing cX10_writing 4 (some (.object "DiskPacks$Order"))) (mRm 8 1 3) [.ref rd, .int u0] G (pPre M0) (fun _ ρ M1 => ∃ (o : Nat) (u1 u2 : Int32), ρ = some (.ref o) ∧ M0 o = none ∧ ((rWA b nb 46 2 pl w) = true → u1 = (rNA b nb 46 2 pl w).2) ∧ ((rWA b nb 61 999 (rNA b nb 46 2 pl w).1 (rWA b nb 46 2 pl w)) = true → u2 = (rNA b nb 61 999 (rNA b nb 46 2 pl w).1 (rWA b nb 46 2 pl w)).2) ∧ M1 = mup (mup M0 rd (eO 8 [.int (nI (rNA b nb 61 999 (rNA b nb 46 2 pl w).1 (rWA b nb 46 2 pl w)).1), .int (rW (rWA b nb 61 999 (rNA b nb 46 2 pl w).1 (rWA b nb 46 2 pl w))), .ref eb, .int (nI mn), .ref x])) o (Sum.inr (lamC (G.2.1 (20 + 6)) [.int u0, .int u1, .int u2]) : mE)) := by
  refine mMet.ofN (by decide +kernel) (Nat.le_of_ble_eq_true rfl) fun p e s m args below meth c A Q M hM0 F hnm hQ hM ls hl => ?_
  have hM0 : M0 = M := hM0.symm
  subst hM0
  have hl : lv_has ls 4 [(0, .ref rd), (1, .int u0)] := hl
  refine lv_aload_n F.1.1 F.1.2.1 dX10_writing_0 rfl (lv_at hl 0 rfl) ?_
  refine mr_bipush F 46 dX10_writing_1 (by decide +kernel) ?_
  refine mr_iconst F 2 dX10_writing_3 (by decide +kernel) ?_
  refine mc_V (As := [_, _]) F hM (cs_X10_after l h_rd h_x h_q h_v n_q_v n_rd_x n_rd_q n_rd_v h2 h3 hpl hb (by omega) (by decide) (by decide) (by decide)) (cwV 2 F.1.2.2.2.2 (lw_V q791 q793 qs5 q106 q794) rfl rfl rfl (by decide +kernel) (mRm_ok (by decide) (by decide))) rfl h_rd rfl rfl rfl hl.1 rfl (Nat.le_of_ble_eq_true rfl) dX10_writing_4 ⟨Nat.le_of_ble_eq_true rfl, Nat.le_of_ble_eq_true rfl⟩ (fun ρ4 M4 H locs hP4 hM hz4 => ?_)
  obtain ⟨u1, rfl, hu1, rfl⟩ := hP4
  have hle : (rNA b nb 46 2 pl w).1 ≤ nb := rNum_le hb (rWK_le (w := w) (k := 46) (by decide) (by decide) hpl3)
  have h_x := nw_put hM (Ne.symm n_rd_x) h_x
  have h_q := nw_put hM (Ne.symm n_rd_q) h_q
  have h_v := nw_put hM (Ne.symm n_rd_v) h_v
  have h_rd := nw_self hM
  refine lv_istore_n (lv' := [(2, _), (0, _), (1, _)]) F.1.1 F.1.2.1 dX10_writing_7 rfl hl (by decide) rfl (fun ls hl => ?_)
  refine lv_aload_n F.1.1 F.1.2.1 dX10_writing_8 rfl (lv_at hl 1 rfl) ?_
  refine mr_bipush F 61 dX10_writing_9 (by decide +kernel) ?_
  refine mr_sipush F 999 dX10_writing_11 (by decide +kernel) ?_
  refine mc_V (As := [_, _]) F hM (cs_X10_after l h_rd h_x h_q h_v n_q_v n_rd_x n_rd_q n_rd_v h2 h3 (Nat.le_trans hle (by omega)) hb (Nat.lt_of_le_of_lt hle (by omega)) (by decide) (by decide) (by decide)) (cwV 2 F.1.2.2.2.2 (lw_V q791 q793 qs5 q106 q794) rfl rfl rfl (by decide +kernel) (mRm_ok (by decide) (by decide))) rfl h_rd rfl rfl rfl hl.1 rfl (Nat.le_of_ble_eq_true rfl) dX10_writing_14 ⟨Nat.le_of_ble_eq_true rfl, Nat.le_of_ble_eq_true rfl⟩ (fun ρ14 M14 H locs hP14 hM hz14 => ?_)
  obtain ⟨u2, rfl, hu2, rfl⟩ := hP14
  have h_x := nw_put hM (Ne.symm n_rd_x) h_x
  have h_q := nw_put hM (Ne.symm n_rd_q) h_q
  have h_v := nw_put hM (Ne.symm n_rd_v) h_v
  have h_rd := nw_self hM
  refine lv_istore_n (lv' := [(3, _), (2, _), (0, _), (1, _)]) F.1.1 F.1.2.1 dX10_writing_17 rfl hl (by decide) rfl (fun ls hl => ?_)
  refine lv_iload_n F.1.1 F.1.2.1 dX10_writing_18 rfl (lv_at hl 3 rfl) ?_
  refine lv_iload_n F.1.1 F.1.2.1 dX10_writing_19 rfl (lv_at hl 1 rfl) ?_
  refine lv_iload_n F.1.1 F.1.2.1 dX10_writing_20 rfl (lv_at hl 0 rfl) ?_
  refine mr_lam F hM 6 rfl hnm (tys := #[.int, .int, .int]) (by decide +kernel) (vals := [.int _, .int _, .int _]) rfl rfl (lf3 rfl rfl rfl) rfl (Nat.le_of_ble_eq_true rfl) hl.1 (Nat.le_of_ble_eq_true rfl) (Nat.le_of_ble_eq_true rfl) (Nat.le_of_ble_eq_true rfl) dX10_writing_21 (fun o H hq_o _ hM => ?_)
  have n_rd_o := kp_ne hq_o h_rd
  have n_x_o := kp_ne hq_o h_x
  have n_q_o := kp_ne hq_o h_q
  have n_v_o := kp_ne hq_o h_v
  have h_rd := nw_new hM hq_o h_rd
  have h_x := nw_new hM hq_o h_x
  have h_q := nw_new hM hq_o h_q
  have h_v := nw_new hM hq_o h_v
  have h_o := nw_self hM
  exact mr_aret F hQ (by first | exact Or.inl ⟨_, rfl⟩ | exact Or.inr ⟨_, rfl⟩) hM ⟨o, u1, u2, rfl, mup_none (mup_none hq_o), hu1, hu2, by rw [mup_mup]⟩ (Nat.le_of_ble_eq_true rfl) (Nat.le_of_ble_eq_true rfl) dX10_writing_26
set_option maxHeartbeats 4000000 in
theorem cs_X10_turning (l : Launch) {G : mG} {M0 : mM} {rd x q v eb cap nb pl mn : Nat} {z : Int32} {t b : Nat → Int32} {w : Bool} {vs vn vq : Value} {u0 : Int32} (h_rd : M0 rd = some (eO 8 [.int (nI pl), .int (rW w), .ref eb, .int (nI mn), .ref x])) (h_x : M0 x = some (eO 0 [vs, vn, vq, .ref q])) (h_q : M0 q = some (eO 11 [.ref v, .int (nI 0), .int z, .int (nI nb)])) (h_v : M0 v = some (eI (G.2.1 3) cap t)) (n_q_v : q ≠ v) (n_rd_x : rd ≠ x) (n_rd_q : rd ≠ q) (n_rd_v : rd ≠ v) (h2 : nb ≤ cap) (h3 : cap ≤ 100) (hpl : pl ≤ 100) (hb : rTx b t nb) (hpl3 : pl ≤ nb) (hnb : nb ≤ 60) : mMet l yX10_turning (ws_ yX10_turning cX10_turning 3 (some (.object "DiskPacks$Order"))) (mRm 7 1 2) [.ref rd, .int u0] G (pPre M0) (fun _ ρ M1 => ∃ o : Nat, ρ = some (.ref o) ∧ M0 o = none ∧ M1 = mup (mup M0 rd (eO 8 [.int (nI (tAdv (rWK b nb (rCh b nb pl) pl w) pl)), .int (rW (rWK b nb (rCh b nb pl) pl w)), .ref eb, .int (nI mn), .ref x])) o (Sum.inr (lamC (G.2.1 (20 + 8)) [.int u0, .int (if rSg b nb pl = nI 43 then nI 1 else nI 0)]) : mE)) := by
  refine mMet.ofN (by decide +kernel) (Nat.le_of_ble_eq_true rfl) fun p e s m args below meth c A Q M hM0 F hnm hQ hM ls hl => ?_
  have hM0 : M0 = M := hM0.symm
  subst hM0
  have hl : lv_has ls 3 [(0, .ref rd), (1, .int u0)] := hl
  refine lv_aload_n F.1.1 F.1.2.1 dX10_turning_0 rfl (lv_at hl 0 rfl) ?_
  refine mc_Va (As := []) F hM (cs_X10_next l h_rd h_x h_q h_v n_q_v h2 h3 hpl hb) (cwV 0 F.1.2.2.2.2 (lw_V q763 q765 qs2 q106 q766) rfl rfl rfl (by decide +kernel) (mRm_ok (by decide) (by decide))) h_rd rfl rfl rfl rfl hl.1 rfl (Nat.le_of_ble_eq_true rfl) dX10_turning_1 ⟨Nat.le_of_ble_eq_true rfl, Nat.le_of_ble_eq_true rfl⟩ (fun H locs hM => ?_)
  refine mr_bipush F 43 dX10_turning_4 (by decide +kernel) ?_
  refine lv_icmp_ne (tgt := 13) F.1.1 F.1.2.1 dX10_turning_6 (by decide) (fun c6 => ?_) (fun c6 => ?_)
  · have hC : rCh b nb pl = 45 := if_neg c6
    refine mr_iconst F 0 dX10_turning_13 (by decide +kernel) ?_
    refine lv_istore_n (lv' := [(2, _), (0, _), (1, _)]) F.1.1 F.1.2.1 dX10_turning_14 rfl hl (by decide) rfl (fun ls hl => ?_)
    refine lv_aload_n F.1.1 F.1.2.1 dX10_turning_15 rfl (lv_at hl 1 rfl) ?_
    refine lv_iload_n F.1.1 F.1.2.1 dX10_turning_16 rfl (lv_at hl 0 rfl) ?_
    refine mr_ifeqN F (tgt := 25) dX10_turning_17 (by decide) (by omega) (fun c17 => ?_) (fun c17 => ?_)
    · refine mr_bipush F 45 dX10_turning_25 (by decide +kernel) ?_
      refine mc_Vv (As := [_]) F hM (cs_X10_sign l h_rd h_x h_q h_v n_q_v n_rd_x n_rd_q n_rd_v h2 h3 hpl hb (by decide) (by decide)) (cwV 1 F.1.2.2.2.2 (lw_V q795 q797 qs6 q106 q798) rfl rfl rfl (by decide +kernel) (mRm_ok (by decide) (by decide))) h_rd rfl rfl rfl rfl hl.1 rfl (Nat.le_of_ble_eq_true rfl) dX10_turning_27 ⟨Nat.le_of_ble_eq_true rfl, Nat.le_of_ble_eq_true rfl⟩ (fun H locs hM => ?_)
      have h_x := nw_put hM (Ne.symm n_rd_x) h_x
      have h_q := nw_put hM (Ne.symm n_rd_q) h_q
      have h_v := nw_put hM (Ne.symm n_rd_v) h_v
      have h_rd := nw_self hM
      refine lv_iload_n F.1.1 F.1.2.1 dX10_turning_30 rfl (lv_at hl 2 rfl) ?_
      refine lv_iload_n F.1.1 F.1.2.1 dX10_turning_31 rfl (lv_at hl 0 rfl) ?_
      refine mr_lam F hM 8 rfl hnm (tys := #[.int, .boolean]) (by decide +kernel) (vals := [.int _, .int _]) rfl rfl (lf2 rfl rfl) rfl (Nat.le_of_ble_eq_true rfl) hl.1 (Nat.le_of_ble_eq_true rfl) (Nat.le_of_ble_eq_true rfl) (Nat.le_of_ble_eq_true rfl) dX10_turning_32 (fun o H hq_o _ hM => ?_)
      have n_rd_o := kp_ne hq_o h_rd
      have n_x_o := kp_ne hq_o h_x
      have n_q_o := kp_ne hq_o h_q
      have n_v_o := kp_ne hq_o h_v
      have h_rd := nw_new hM hq_o h_rd
      have h_x := nw_new hM hq_o h_x
      have h_q := nw_new hM hq_o h_q
      have h_v := nw_new hM hq_o h_v
      have h_o := nw_self hM
      exact mr_aret F hQ (by first | exact Or.inl ⟨_, rfl⟩ | exact Or.inr ⟨_, rfl⟩) hM ⟨o, rfl, mup_none hq_o, by rw [hC, if_neg c6]⟩ (Nat.le_of_ble_eq_true rfl) (Nat.le_of_ble_eq_true rfl) dX10_turning_37
    · exact absurd (by decide) c17
  · have hC : rCh b nb pl = 43 := if_pos c6
    refine mr_iconst F 1 dX10_turning_9 (by decide +kernel) ?_
    refine lv_goto (tgt := 14) F.1.1 F.1.2.1 dX10_turning_10 (by decide) ?_
    refine lv_istore_n (lv' := [(2, _), (0, _), (1, _)]) F.1.1 F.1.2.1 dX10_turning_14 rfl hl (by decide) rfl (fun ls hl => ?_)
    refine lv_aload_n F.1.1 F.1.2.1 dX10_turning_15 rfl (lv_at hl 1 rfl) ?_
    refine lv_iload_n F.1.1 F.1.2.1 dX10_turning_16 rfl (lv_at hl 0 rfl) ?_
    refine mr_ifeqN F (tgt := 25) dX10_turning_17 (by decide) (by omega) (fun c17 => ?_) (fun c17 => ?_)
    · exact absurd c17 (by decide)
    · refine mr_bipush F 43 dX10_turning_20 (by decide +kernel) ?_
      refine lv_goto (tgt := 27) F.1.1 F.1.2.1 dX10_turning_22 (by decide) ?_
      refine mc_Vv (As := [_]) F hM (cs_X10_sign l h_rd h_x h_q h_v n_q_v n_rd_x n_rd_q n_rd_v h2 h3 hpl hb (by decide) (by decide)) (cwV 1 F.1.2.2.2.2 (lw_V q795 q797 qs6 q106 q798) rfl rfl rfl (by decide +kernel) (mRm_ok (by decide) (by decide))) h_rd rfl rfl rfl rfl hl.1 rfl (Nat.le_of_ble_eq_true rfl) dX10_turning_27 ⟨Nat.le_of_ble_eq_true rfl, Nat.le_of_ble_eq_true rfl⟩ (fun H locs hM => ?_)
      have h_x := nw_put hM (Ne.symm n_rd_x) h_x
      have h_q := nw_put hM (Ne.symm n_rd_q) h_q
      have h_v := nw_put hM (Ne.symm n_rd_v) h_v
      have h_rd := nw_self hM
      refine lv_iload_n F.1.1 F.1.2.1 dX10_turning_30 rfl (lv_at hl 2 rfl) ?_
      refine lv_iload_n F.1.1 F.1.2.1 dX10_turning_31 rfl (lv_at hl 0 rfl) ?_
      refine mr_lam F hM 8 rfl hnm (tys := #[.int, .boolean]) (by decide +kernel) (vals := [.int _, .int _]) rfl rfl (lf2 rfl rfl) rfl (Nat.le_of_ble_eq_true rfl) hl.1 (Nat.le_of_ble_eq_true rfl) (Nat.le_of_ble_eq_true rfl) (Nat.le_of_ble_eq_true rfl) dX10_turning_32 (fun o H hq_o _ hM => ?_)
      have n_rd_o := kp_ne hq_o h_rd
      have n_x_o := kp_ne hq_o h_x
      have n_q_o := kp_ne hq_o h_q
      have n_v_o := kp_ne hq_o h_v
      have h_rd := nw_new hM hq_o h_rd
      have h_x := nw_new hM hq_o h_x
      have h_q := nw_new hM hq_o h_q
      have h_v := nw_new hM hq_o h_v
      have h_o := nw_self hM
      exact mr_aret F hQ (by first | exact Or.inl ⟨_, rfl⟩ | exact Or.inr ⟨_, rfl⟩) hM ⟨o, rfl, mup_none hq_o, by rw [hC, if_pos c6]⟩ (Nat.le_of_ble_eq_true rfl) (Nat.le_of_ble_eq_true rfl) dX10_turning_37
