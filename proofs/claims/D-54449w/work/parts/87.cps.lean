/-! THE SYSTEM: packs copied -/
set_option maxHeartbeats 4000000 in
theorem cs_X8_init (l : Launch) {G : mG} {M0 : mM} {ad : Nat → Nat} {n : Nat} {r : Nat → Int32} {f : Nat → UInt32} {dv : Nat → Int32} {q k : Nat} (hn : n ≤ 6) (h1 : k < n) (hS : sAt G ad n r f dv M0) (o_q : ∀ i, sL n i → ad i ≠ q) (hsc : ∀ j, j < 18 → r (96 + j) = nI 0 ∨ r (96 + j) = nI 1) (h_q : M0 q = some (eO 6 [.int 0, .null, .int 0])) : mMet l yX8_init (ws_ yX8_init cX8_init 3 none) (mRm 4 13 375) [.ref q, .ref (ad (60 + k))] G (pPre M0) (fun _ ρ M1 => ρ = none ∧ pkNew G q k r f dv M0 M1) := by
  refine mMet.of (by decide +kernel) (Nat.le_of_ble_eq_true rfl) fun p e s m args below meth c A Q M hM0 F hnm hQ hM ls hl => ?_
  have hM0 : M0 = M := hM0.symm
  subst hM0
  have hl : lv_has ls 3 [(0, .ref q), (1, .ref (ad (60 + k)))] := hl
  have hN : NewB M0 q M0 := fun a x h _ => h
  have hb0 := h_q
  have hS9 := hS
  refine lv_aload_n F.1.1 F.1.2.1 dX8_init_0 rfl (lv_at hl 0 rfl) ?_
  refine mr_obj F q1082 hl.1 (Nat.le_of_ble_eq_true rfl) (Nat.le_of_ble_eq_true rfl) dX8_init_1 ?_
  refine lv_aload_n F.1.1 F.1.2.1 dX8_init_4 rfl (lv_at hl 0 rfl) ?_
  refine mr_iconst F 3 dX8_init_5 (by decide +kernel) ?_
  refine mr_newQ F hM 7 q1083 q1084 rfl (Nat.le_of_ble_eq_true rfl) (Nat.le_of_ble_eq_true rfl) (Nat.le_of_ble_eq_true rfl) dX8_init_6 (fun u6 H hq_u6 hM => ?_)
  have n_q_u6 := kp_ne hq_u6 h_q
  have h_q := nw_new hM hq_u6 h_q
  have o_u6 := hS.out hq_u6
  have hS := nw_S hM hq_u6 hS
  have w_u6 := nw_F hq_u6 hN
  have z_u6 := hN.none hb0 hq_u6
  have hb0 := nw_new hM hq_u6 hb0
  have hN := nw_N hM hq_u6 hN
  have h_u6 := nw_self hM
  refine cf6 F hM h_q 1 (by decide) q1128 (fun x h => h) rfl hnm rfl rfl rfl (Nat.le_of_ble_eq_true rfl) dX8_init_9 (fun H locs hM => ?_)
  have h_u6 := nw_put hM (Ne.symm n_q_u6) h_u6
  have hS := nw_SP hM o_q hS
  have hN := nw_NB hM hN
  have h_q := nw_self hM
  have hb0 := h_q
  refine lv_aload_n F.1.1 F.1.2.1 dX8_init_12 rfl (lv_at hl 0 rfl) ?_
  refine lv_iconst (v := -1) F.1.1 F.1.2.1 dX8_init_13 (by decide +kernel) ?_
  refine cp6 F hM h_q 2 (by decide) q1131 (fun x h => h) rfl rfl rfl (Nat.le_of_ble_eq_true rfl) dX8_init_14 (fun H locs hM => ?_)
  have h_u6 := nw_put hM (Ne.symm n_q_u6) h_u6
  have hS := nw_SP hM o_q hS
  have hN := nw_NB hM hN
  have h_q := nw_self hM
  have hb0 := h_q
  refine lv_aload_n F.1.1 F.1.2.1 dX8_init_17 rfl (lv_at hl 0 rfl) ?_
  refine lv_aload_n F.1.1 F.1.2.1 dX8_init_18 rfl (lv_at hl 1 rfl) ?_
  refine cg6 F hM (sq_P hS hn (by omega)) 0 (by decide) q1125 (fun x h => h) rfl dX8_init_19 ?_
  refine cf6 F hM h_q 0 (by decide) q1125 (fun x h => h) rfl hnm rfl rfl rfl (Nat.le_of_ble_eq_true rfl) dX8_init_22 (fun H locs hM => ?_)
  have h_u6 := nw_put hM (Ne.symm n_q_u6) h_u6
  have hS := nw_SP hM o_q hS
  have hN := nw_NB hM hN
  have h_q := nw_self hM
  have hb0 := h_q
  refine lv_aload_n F.1.1 F.1.2.1 dX8_init_25 rfl (lv_at hl 0 rfl) ?_
  refine lv_aload_n F.1.1 F.1.2.1 dX8_init_26 rfl (lv_at hl 1 rfl) ?_
  refine cg6 F hM (sq_P hS hn (by omega)) 2 (by decide) q1131 (fun x h => h) rfl dX8_init_27 ?_
  refine cp6 F hM h_q 2 (by decide) q1131 (fun x h => h) rfl rfl rfl (Nat.le_of_ble_eq_true rfl) dX8_init_30 (fun H locs hM => ?_)
  have h_u6 := nw_put hM (Ne.symm n_q_u6) h_u6
  have hS := nw_SP hM o_q hS
  have hN := nw_NB hM hN
  have h_q := nw_self hM
  have hb0 := h_q
  refine mr_iconst F 0 dX8_init_33 (by decide +kernel) ?_
  refine lv_istore_n (lv' := [(2, _), (0, _), (1, _)]) F.1.1 F.1.2.1 dX8_init_34 rfl hl (by decide) rfl (fun ls hl => ?_)
  have lp : ∀ j i : Nat, i + j = 3 → ∀ (Mx : mM) (ap : Nat → Nat) (H : Heap) (locs : List Loc), mWd G A s.heap Mx H locs → NewB M0 q Mx → Mx q = some (eO 6 [.int (r (90 + k)), .ref u6, .int (dv k)]) → Mx u6 = some (eQ (G.2.1 7) 3 (pkA ap k i)) → pkPart G q u6 k i r f dv ap M0 Mx → ∀ ls : Array Slot, lv_has ls 3 [(2, .int (nI i)), (0, .ref q), (1, .ref (ad (60 + k)))] → W p l e (mRm 4 13 375) s m args below meth c H locs (1 + 4 * i) (3 + 124 * i) Q (F0 m 35 ls []) := by
    intro j
    induction j with
    | zero =>
      intro i hi Mx ap H locs hM hN h_q h_u6 hp ls hl
      obtain rfl : i = 3 := by omega
      refine lv_iload_n F.1.1 F.1.2.1 dX8_init_35 rfl (lv_at hl 0 rfl) ?_
      refine mr_iconst F 3 dX8_init_36 (by decide +kernel) ?_
      refine mr_icmp_geN F (tgt := 61) dX8_init_37 (by decide) (by omega) (by omega) (fun c37 => ?_) (fun c37 => ?_)
      · exact mr_vret F hQ hM ⟨rfl, pkNew.of (by omega) hN h_q h_u6 hp⟩ (Nat.le_of_ble_eq_true rfl) (Nat.le_of_ble_eq_true rfl) dX8_init_61
      · exact absurd c37 (by omega)
    | succ j ih =>
      intro i hi Mx ap H locs hM hN h_q h_u6 hp ls hl
      have hS := nw_SN hS9 o_q hN
      refine lv_iload_n F.1.1 F.1.2.1 dX8_init_35 rfl (lv_at hl 0 rfl) ?_
      refine mr_iconst F 3 dX8_init_36 (by decide +kernel) ?_
      refine mr_icmp_geN F (tgt := 61) dX8_init_37 (by decide) (by omega) (by omega) (fun c37 => ?_) (fun c37 => ?_)
      · exact absurd c37 (by omega)
      · refine lv_aload_n F.1.1 F.1.2.1 dX8_init_40 rfl (lv_at hl 1 rfl) ?_
        refine cg6 F hM h_q 1 (by decide) q1128 (fun x h => h) rfl dX8_init_41 ?_
        refine lv_iload_n F.1.1 F.1.2.1 dX8_init_44 rfl (lv_at hl 0 rfl) ?_
        refine lv_aload_n F.1.1 F.1.2.1 dX8_init_45 rfl (lv_at hl 2 rfl) ?_
        refine cg6 F hM (sq_P hS hn (by omega)) 1 (by decide) q1128 (fun x h => h) rfl dX8_init_46 ?_
        refine lv_iload_n F.1.1 F.1.2.1 dX8_init_49 rfl (lv_at hl 0 rfl) ?_
        refine mr_aald F.1.1 F.1.2.1 F.2.1 hM 7 (sq_U hS hn (by omega)) rfl (by omega) (by omega) (sSa_rf (by omega) (show 80 + 3 * k + i = 80 + (3 * k + i) by omega)) dX8_init_50 ?_
        refine mc_V (As := []) F hM (cs_X9_copy l hn (by omega) hS (hsc (3 * k + i) (by omega))) (cwV 0 F.1.2.2.2.2 (lw_V q1085 q1086 q1087 q95 q1088) rfl rfl rfl (by decide +kernel) (mRm_ok (by decide) (by decide))) rfl (sq_S hS hn (by omega)) rfl rfl rfl hl.1 rfl (Nat.le_of_ble_eq_true rfl) dX8_init_51 ⟨(show 1 + 4 * i + 4 ≤ 13 by omega), (show 3 + 124 * i + 124 ≤ 375 by omega)⟩ (fun ρ51 M51 H locs hP51 hM hz51 => ?_)
        obtain ⟨x1, rfl, hsu⟩ := hP51
        obtain ⟨fsx, hx1⟩ := hsu.cell
        have hNx := hsu.new
        refine mr_aast F.1.1 F.1.2.1 F.2.1 hM 7 7 (hNx _ _ h_u6) rfl hx1 rfl (by omega) (by omega) dX8_init_54 (fun H locs hM => ?_)
        obtain ⟨ap2, hp2, he2⟩ := pkStep (by omega) (by omega) hN h_q h_u6 hp hsu
        have h_q2 := nw_put hM n_q_u6 (hNx _ _ h_q)
        have h_u62 := (nw_self hM).trans (by rw [he2])
        have hN2 : NewB M0 q _ := fun a x h hb => nw_put hM (w_u6 a x h hb) (hNx _ _ (hN a x h hb))
        refine lv_iinc (lv' := [(2, _), (0, _), (1, _)]) F.1.1 F.1.2.1 dX8_init_55 hl (k := 0) rfl (nK_add _ 1) (by decide) rfl (fun ls hl => ?_)
        refine lv_goto (tgt := 35) F.1.1 F.1.2.1 dX8_init_58 (by decide) ?_
        have hh := ih (i + 1) (by omega) _ ap2 _ _ hM hN2 h_q2 h_u62 hp2 _ (lv_sub hl [0, 1, 2] rfl)
        rw [show 1 + 4 * (i + 1) = 1 + 4 * i + 4 by omega, show 3 + 124 * (i + 1) = 3 + 124 * i + 124 by omega] at hh
        exact hh
  exact lp 3 0 rfl _ _ _ _ hM hN h_q h_u6 (pkPart.start (by omega) n_q_u6 z_u6) _ hl
set_option maxHeartbeats 4000000 in
theorem cs_X8_copy (l : Launch) {G : mG} {M0 : mM} {ad : Nat → Nat} {n : Nat} {r : Nat → Int32} {f : Nat → UInt32} {dv : Nat → Int32} {k : Nat} (hn : n ≤ 6) (h1 : k < n) (hS : sAt G ad n r f dv M0) (hsc : ∀ j, j < 18 → r (96 + j) = nI 0 ∨ r (96 + j) = nI 1) : mMet l yX8_copy (ws_ yX8_copy cX8_copy 1 (some (.object "DiskPacks$Pack"))) (mRm 5 14 378) [.ref (ad (60 + k))] G (pPre M0) (fun _ ρ M1 => ∃ q, ρ = some (.ref q) ∧ pkMade G q k r f dv M0 M1) := by
  refine mMet.of (by decide +kernel) (Nat.le_of_ble_eq_true rfl) fun p e s m args below meth c A Q M hM0 F hnm hQ hM ls hl => ?_
  have hM0 : M0 = M := hM0.symm
  subst hM0
  have hl : lv_has ls 1 [(0, .ref (ad (60 + k)))] := hl
  have hN : New M0 M0 := fun a x h => h
  refine cn6 F hM q1077 (Nat.le_of_ble_eq_true rfl) (Nat.le_of_ble_eq_true rfl) dX8_copy_0 (fun w0 H hq_w0 hM => ?_)
  have o_w0 := hS.out hq_w0
  have hS := nw_S hM hq_w0 hS
  have w_w0 := nw_F0 hq_w0 hN
  have z_w0 := hN.none hq_w0
  have hN := nw_N0 hM hq_w0 hN
  have h_w0 := nw_self hM
  refine lv_dup F.1.1 F.1.2.1 dX8_copy_3 rfl ?_
  refine lv_aload_n F.1.1 F.1.2.1 dX8_copy_4 rfl (lv_at hl 0 rfl) ?_
  refine mc_I (As := [_]) F hM (cs_X8_init l hn h1 hS o_w0 hsc h_w0) (cwI 1 F.1.2.2.2.2 (lw_meth q1081) rfl rfl rfl (F.1.2.2.2.2 _ q94) (F.1.2.2.2.2 _ q1079) (F.1.2.2.2.2 _ q1080) rfl (by decide +kernel) (mRm_ok (by decide) (by decide))) rfl rfl hl.1 rfl (Nat.le_of_ble_eq_true rfl) dX8_copy_5 ⟨Nat.le_of_ble_eq_true rfl, Nat.le_of_ble_eq_true rfl⟩ (fun ρ5 M5 H locs hP5 hM hz5 => ?_)
  obtain ⟨rfl, hP5⟩ := hP5
  exact mr_aret F hQ (by first | exact Or.inl ⟨_, rfl⟩ | exact Or.inr ⟨_, rfl⟩) hM ⟨w0, rfl, pkMade.of hq_w0 hP5⟩ (Nat.le_of_ble_eq_true rfl) (Nat.le_of_ble_eq_true rfl) dX8_copy_8
