/-! THE SYSTEM: State.makePack -/
set_option maxHeartbeats 4000000 in
theorem cs_X2_makePack_0 (l : Launch) {G : mG} {M0 : mM} {ad : Nat → Nat} {n : Nat} {r : Nat → Int32} {f : Nat → UInt32} {dv : Nat → Int32} {r' : Nat → Int32} {f' : Nat → UInt32} {dv' : Nat → Int32} {d : Nat} (hn : n < 6) (h1 : d < 4) (hd : sAd n ad) (hS : sAt G ad n r f dv M0) (hr : ∀ i, sL n i → ∀ j, sOw j = i → r' j = r j) (hf : ∀ j, j < 120 * n → f' j = f j) (hv : ∀ k, k ≠ n → dv' k = dv k) (hbx : r' (90 + n) = r (0 + (4 * d + 3)) + r (48 + d)) (hdv : dv' n = -1) (hV : ∀ i, i < 3 → sSl r' (126 + 40 * (3 * n + i)) 40 = (fun j => if j < 40 then (-1 : Int32) else 0)) (hO : ∀ i, i < 3 → sSl r' (846 + 40 * (3 * n + i)) 40 = fun _ => 0) (hF : ∀ i, i < 3 → sSf f' (40 * (3 * n + i)) 40 = fun _ => 0) (hs0 : ∀ i, i < 3 → r' (96 + (3 * n + i)) = 0) (hz : n = 0) : mMet l yX2_makePack (ws_ yX2_makePack cX2_makePack 2 none) (mRm 8 15 388) [.ref (ad 0), .int (nI d)] G (pPre M0) (fun _ ρ M1 => ρ = none ∧ ∃ ad' : Nat → Nat, sAd (n + 1) ad' ∧ ad' 0 = ad 0 ∧ sAt G ad' (n + 1) r' f' dv' M1 ∧ (∀ a x, M0 a = some x → (∀ i, sL n i → ad i ≠ a) → M1 a = some x) ∧ (∀ i, sL (n + 1) i → (∃ j, sL n j ∧ ad' i = ad j) ∨ M0 (ad' i) = none)) := by
  refine mMet.of (by decide +kernel) (Nat.le_of_ble_eq_true rfl) fun p e s m args below meth c A Q M hM0 F hnm hQ hM ls hl => ?_
  have hM0 : M0 = M := hM0.symm
  subst hM0
  have hl : lv_has ls 2 [(0, .ref (ad 0)), (1, .int (nI d))] := hl
  have hN : New M0 M0 := fun a x h => h
  have hS0 := hS
  refine lv_aload_n F.1.1 F.1.2.1 dX2_makePack_0 rfl (lv_at hl 0 rfl) ?_
  refine cg1 F hM (sq_0 hS) 1 (by decide) q308 (fun x h => h) rfl dX2_makePack_1 ?_
  refine cn6 F hM q843 (Nat.le_of_ble_eq_true rfl) (Nat.le_of_ble_eq_true rfl) dX2_makePack_4 (fun u4 H hq_u4 hM => ?_)
  have o_u4 := hS.out hq_u4
  have hS := nw_S hM hq_u4 hS
  have w_u4 := nw_F0 hq_u4 hN
  have z_u4 := hN.none hq_u4
  have hN := nw_N0 hM hq_u4 hN
  have h_u4 := nw_self hM
  refine lv_dup F.1.1 F.1.2.1 dX2_makePack_7 rfl ?_
  refine lv_aload_n F.1.1 F.1.2.1 dX2_makePack_8 rfl (lv_at hl 0 rfl) ?_
  refine cg1 F hM (sq_0 hS) 0 (by decide) q306 (fun x h => h) rfl dX2_makePack_9 ?_
  refine lv_iload_n F.1.1 F.1.2.1 dX2_makePack_12 rfl (lv_at hl 1 rfl) ?_
  refine mr_aald F.1.1 F.1.2.1 F.2.1 hM 6 (sq_1 hS) rfl (by omega) (by omega) (sSa_rf (by omega) rfl) dX2_makePack_13 ?_
  refine cg2 F hM (sq_D hS (by omega)) 1 (by decide) q275 (fun x h => h) rfl dX2_makePack_14 ?_
  refine cg3 F hM (sq_HS hS (by omega)) 0 (by decide) q167 (fun x h => h) rfl dX2_makePack_17 ?_
  refine lv_aload_n F.1.1 F.1.2.1 dX2_makePack_20 rfl (lv_at hl 0 rfl) ?_
  refine cg1 F hM (sq_0 hS) 0 (by decide) q306 (fun x h => h) rfl dX2_makePack_21 ?_
  refine lv_iload_n F.1.1 F.1.2.1 dX2_makePack_24 rfl (lv_at hl 1 rfl) ?_
  refine mr_aald F.1.1 F.1.2.1 F.2.1 hM 6 (sq_1 hS) rfl (by omega) (by omega) (sSa_rf (by omega) rfl) dX2_makePack_25 ?_
  refine cg2 F hM (sq_D hS (by omega)) 3 (by decide) q280 (fun x h => h) rfl dX2_makePack_26 ?_
  refine lv_iadd F.1.1 F.1.2.1 dX2_makePack_29 ?_
  refine mc_I (As := [_]) F hM (cs_X8_init_2 l (r := r') (f := f') (dv := dv') (k := n) (by omega) hbx hdv hV hO hF hs0 h_u4) (cwI 1 F.1.2.2.2.2 (lw_meth q1345) rfl rfl rfl (F.1.2.2.2.2 _ q94) (F.1.2.2.2.2 _ q1343) (F.1.2.2.2.2 _ q1344) rfl (by decide +kernel) (mRm_ok (by decide) (by decide))) rfl rfl hl.1 rfl (Nat.le_of_ble_eq_true rfl) dX2_makePack_30 ⟨Nat.le_of_ble_eq_true rfl, Nat.le_of_ble_eq_true rfl⟩ (fun ρ30 M30 H locs hP30 hM hz30 => ?_)
  obtain ⟨rfl, hP30⟩ := hP30
  have hP := pkMade.of hq_u4 hP30
  have hPk := hP
  obtain ⟨ap, p1, p2, p3, p4, p5⟩ := hPk
  have hS := New.S p4 hS0
  have h_u4 : M30 u4 = some (eO 6 (sFP ap r' dv' n)) := by
    have a := p5 (60 + n) (by unfold pLs; omega)
    rw [p1, sC_P (by omega)] at a
    exact a
  refine mc_F (As := [_]) F hM (cs_J2_add_0 l (h_q := (sq_2 hS).trans (by dsimp only [sF2]; rw [if_pos hz, hz])) h_u4 (o_u4 2 (by unfold sL; omega))) (va_cwF 1 F.1.2.2.2.2 (lw_F q1142 q1145 q1147 q74 q1149) rfl rfl rfl (mFw F (by decide) q1148 q1146 q407) (by decide +kernel) (mRm_ok (by decide) (by decide))) rfl (sq_2 hS) rfl rfl (F.2.1.1 9 _ rfl).2 rfl hl.1 rfl (Nat.le_of_ble_eq_true rfl) dX2_makePack_33 ⟨Nat.le_of_ble_eq_true rfl, Nat.le_of_ble_eq_true rfl⟩ (fun ρ33 M33 H locs hP33 hM hz33 => ?_)
  obtain ⟨u, rfl, hzu, rfl⟩ := hP33
  refine lv_pop F.1.1 F.1.2.1 dX2_makePack_38 rfl ?_
  exact mr_vret F hQ hM ⟨rfl, sAt.added hn hd hS0 hP hr hf hv (e3 := u) (fun w => absurd hz w) (fun _ => hzu) (by subst hz; rw [nK_add]; rfl)⟩ (Nat.le_of_ble_eq_true rfl) (Nat.le_of_ble_eq_true rfl) dX2_makePack_39
set_option maxHeartbeats 4000000 in
theorem cs_X2_makePack_n (l : Launch) {G : mG} {M0 : mM} {ad : Nat → Nat} {n : Nat} {r : Nat → Int32} {f : Nat → UInt32} {dv : Nat → Int32} {r' : Nat → Int32} {f' : Nat → UInt32} {dv' : Nat → Int32} {d : Nat} (hn : n < 6) (h1 : d < 4) (hd : sAd n ad) (hS : sAt G ad n r f dv M0) (hr : ∀ i, sL n i → ∀ j, sOw j = i → r' j = r j) (hf : ∀ j, j < 120 * n → f' j = f j) (hv : ∀ k, k ≠ n → dv' k = dv k) (hbx : r' (90 + n) = r (0 + (4 * d + 3)) + r (48 + d)) (hdv : dv' n = -1) (hV : ∀ i, i < 3 → sSl r' (126 + 40 * (3 * n + i)) 40 = (fun j => if j < 40 then (-1 : Int32) else 0)) (hO : ∀ i, i < 3 → sSl r' (846 + 40 * (3 * n + i)) 40 = fun _ => 0) (hF : ∀ i, i < 3 → sSf f' (40 * (3 * n + i)) 40 = fun _ => 0) (hs0 : ∀ i, i < 3 → r' (96 + (3 * n + i)) = 0) (hz : 0 < n) : mMet l yX2_makePack (ws_ yX2_makePack cX2_makePack 2 none) (mRm 8 15 388) [.ref (ad 0), .int (nI d)] G (pPre M0) (fun _ ρ M1 => ρ = none ∧ ∃ ad' : Nat → Nat, sAd (n + 1) ad' ∧ ad' 0 = ad 0 ∧ sAt G ad' (n + 1) r' f' dv' M1 ∧ (∀ a x, M0 a = some x → (∀ i, sL n i → ad i ≠ a) → M1 a = some x) ∧ (∀ i, sL (n + 1) i → (∃ j, sL n j ∧ ad' i = ad j) ∨ M0 (ad' i) = none)) := by
  refine mMet.of (by decide +kernel) (Nat.le_of_ble_eq_true rfl) fun p e s m args below meth c A Q M hM0 F hnm hQ hM ls hl => ?_
  have hM0 : M0 = M := hM0.symm
  subst hM0
  have hl : lv_has ls 2 [(0, .ref (ad 0)), (1, .int (nI d))] := hl
  have hN : New M0 M0 := fun a x h => h
  have hS0 := hS
  refine lv_aload_n F.1.1 F.1.2.1 dX2_makePack_0 rfl (lv_at hl 0 rfl) ?_
  refine cg1 F hM (sq_0 hS) 1 (by decide) q308 (fun x h => h) rfl dX2_makePack_1 ?_
  refine cn6 F hM q843 (Nat.le_of_ble_eq_true rfl) (Nat.le_of_ble_eq_true rfl) dX2_makePack_4 (fun u4 H hq_u4 hM => ?_)
  have o_u4 := hS.out hq_u4
  have hS := nw_S hM hq_u4 hS
  have w_u4 := nw_F0 hq_u4 hN
  have z_u4 := hN.none hq_u4
  have hN := nw_N0 hM hq_u4 hN
  have h_u4 := nw_self hM
  refine lv_dup F.1.1 F.1.2.1 dX2_makePack_7 rfl ?_
  refine lv_aload_n F.1.1 F.1.2.1 dX2_makePack_8 rfl (lv_at hl 0 rfl) ?_
  refine cg1 F hM (sq_0 hS) 0 (by decide) q306 (fun x h => h) rfl dX2_makePack_9 ?_
  refine lv_iload_n F.1.1 F.1.2.1 dX2_makePack_12 rfl (lv_at hl 1 rfl) ?_
  refine mr_aald F.1.1 F.1.2.1 F.2.1 hM 6 (sq_1 hS) rfl (by omega) (by omega) (sSa_rf (by omega) rfl) dX2_makePack_13 ?_
  refine cg2 F hM (sq_D hS (by omega)) 1 (by decide) q275 (fun x h => h) rfl dX2_makePack_14 ?_
  refine cg3 F hM (sq_HS hS (by omega)) 0 (by decide) q167 (fun x h => h) rfl dX2_makePack_17 ?_
  refine lv_aload_n F.1.1 F.1.2.1 dX2_makePack_20 rfl (lv_at hl 0 rfl) ?_
  refine cg1 F hM (sq_0 hS) 0 (by decide) q306 (fun x h => h) rfl dX2_makePack_21 ?_
  refine lv_iload_n F.1.1 F.1.2.1 dX2_makePack_24 rfl (lv_at hl 1 rfl) ?_
  refine mr_aald F.1.1 F.1.2.1 F.2.1 hM 6 (sq_1 hS) rfl (by omega) (by omega) (sSa_rf (by omega) rfl) dX2_makePack_25 ?_
  refine cg2 F hM (sq_D hS (by omega)) 3 (by decide) q280 (fun x h => h) rfl dX2_makePack_26 ?_
  refine lv_iadd F.1.1 F.1.2.1 dX2_makePack_29 ?_
  refine mc_I (As := [_]) F hM (cs_X8_init_2 l (r := r') (f := f') (dv := dv') (k := n) (by omega) hbx hdv hV hO hF hs0 h_u4) (cwI 1 F.1.2.2.2.2 (lw_meth q1345) rfl rfl rfl (F.1.2.2.2.2 _ q94) (F.1.2.2.2.2 _ q1343) (F.1.2.2.2.2 _ q1344) rfl (by decide +kernel) (mRm_ok (by decide) (by decide))) rfl rfl hl.1 rfl (Nat.le_of_ble_eq_true rfl) dX2_makePack_30 ⟨Nat.le_of_ble_eq_true rfl, Nat.le_of_ble_eq_true rfl⟩ (fun ρ30 M30 H locs hP30 hM hz30 => ?_)
  obtain ⟨rfl, hP30⟩ := hP30
  have hP := pkMade.of hq_u4 hP30
  have hPk := hP
  obtain ⟨ap, p1, p2, p3, p4, p5⟩ := hPk
  have hS := New.S p4 hS0
  have h_u4 : M30 u4 = some (eO 6 (sFP ap r' dv' n)) := by
    have a := p5 (60 + n) (by unfold pLs; omega)
    rw [p1, sC_P (by omega)] at a
    exact a
  refine mc_Fa (As := [_]) F hM (cs_J2_add_n l ((sq_2 hS).trans (by dsimp only [sF2]; rw [if_neg (by omega)])) h_u4 (o_u4 2 (by unfold sL; omega)) (sq_3 hS hz) (fun e => absurd (hd _ _ (by unfold sL; omega) (by unfold sL; omega) e) (by omega)) (Ne.symm (o_u4 3 (by unfold sL; omega))) (by omega)) (va_cwF 1 F.1.2.2.2.2 (lw_F q1142 q1145 q1147 q74 q1149) rfl rfl rfl (mFw F (by decide) q1148 q1146 q407) (by decide +kernel) (mRm_ok (by decide) (by decide))) (sq_2 hS) rfl rfl (F.2.1.1 9 _ rfl).2 rfl rfl hl.1 rfl (Nat.le_of_ble_eq_true rfl) dX2_makePack_33 ⟨Nat.le_of_ble_eq_true rfl, Nat.le_of_ble_eq_true rfl⟩ (fun H locs hM => ?_)
  refine lv_pop F.1.1 F.1.2.1 dX2_makePack_38 rfl ?_
  exact mr_vret F hQ hM ⟨rfl, sAt.added hn hd hS0 hP hr hf hv (e3 := ad 3) (fun _ => rfl) (fun w => absurd w (by omega)) (by rw [nK_add])⟩ (Nat.le_of_ble_eq_true rfl) (Nat.le_of_ble_eq_true rfl) dX2_makePack_39
