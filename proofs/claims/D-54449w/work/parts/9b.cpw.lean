/-! THE SYSTEM: State.copy -/
set_option maxHeartbeats 4000000 in
theorem cs_X2_copy (l : Launch) {G : mG} {M0 : mM} {ad : Nat → Nat} {n : Nat} {r : Nat → Int32} {f : Nat → UInt32} {dv : Nat → Int32}  (hn : n ≤ 6) (hd : sAd n ad) (hS : sAt G ad n r f dv M0) (hst : ∀ j, j < 16 → r (16 + j) = nI 0 ∨ r (16 + j) = nI 1) (hsv : ∀ d, d < 4 → (r (56 + d) = nI 0 ∨ r (56 + d) = nI 1)) (hsc : ∀ j, j < 18 → r (96 + j) = nI 0 ∨ r (96 + j) = nI 1) : mMet l yX2_copy (ws_ yX2_copy cX2_copy 1 (some (.object "DiskPacks$State"))) (mRm 9 123 2464) [.ref (ad 0)] G (pPre M0) (fun _ ρ M1 => ∃ q, ρ = some (.ref q) ∧ stMade G q n r f dv M0 M1) := by
  refine mMet.of (by decide +kernel) (Nat.le_of_ble_eq_true rfl) fun p e s m args below meth c A Q M hM0 F hnm hQ hM ls hl => ?_
  have hM0 : M0 = M := hM0.symm
  subst hM0
  have hl : lv_has ls 1 [(0, .ref (ad 0))] := hl
  have hN : New M0 M0 := fun a x h => h
  refine cn1 F hM q1035 (Nat.le_of_ble_eq_true rfl) (Nat.le_of_ble_eq_true rfl) dX2_copy_0 (fun w0 H hq_w0 hM => ?_)
  have o_w0 := hS.out hq_w0
  have hS := nw_S hM hq_w0 hS
  have w_w0 := nw_F0 hq_w0 hN
  have z_w0 := hN.none hq_w0
  have hN := nw_N0 hM hq_w0 hN
  have h_w0 := nw_self hM
  refine lv_dup F.1.1 F.1.2.1 dX2_copy_3 rfl ?_
  refine lv_aload_n F.1.1 F.1.2.1 dX2_copy_4 rfl (lv_at hl 0 rfl) ?_
  refine mc_I (As := [_]) F hM (cs_X2_init_2 l hn hd hS o_w0 hst hsv hsc h_w0) (cwI 1 F.1.2.2.2.2 (lw_meth q1038) rfl rfl rfl (F.1.2.2.2.2 _ q71) (F.1.2.2.2.2 _ q1036) (F.1.2.2.2.2 _ q1037) rfl (by decide +kernel) (mRm_ok (by decide) (by decide))) rfl rfl hl.1 rfl (Nat.le_of_ble_eq_true rfl) dX2_copy_5 ⟨Nat.le_of_ble_eq_true rfl, Nat.le_of_ble_eq_true rfl⟩ (fun ρ5 M5 H locs hP5 hM hz5 => ?_)
  obtain ⟨rfl, ae, hP5⟩ := hP5
  exact mr_aret F hQ (by first | exact Or.inl ⟨_, rfl⟩ | exact Or.inr ⟨_, rfl⟩) hM ⟨w0, rfl, stMade.of hq_w0 hP5⟩ (Nat.le_of_ble_eq_true rfl) (Nat.le_of_ble_eq_true rfl) dX2_copy_8
