/-! THE SYSTEM: packs made -/
set_option maxHeartbeats 4000000 in
theorem cs_X8_init_2 (l : Launch) {G : mG} {M0 : mM} {r : Nat → Int32} {f : Nat → UInt32} {dv : Nat → Int32} {q k : Nat} {x : Int32} (hk : k < 6) (hbx : r (90 + k) = x) (hdv : dv k = -1) (hV : ∀ i, i < 3 → sSl r (126 + 40 * (3 * k + i)) 40 = (fun j => if j < 40 then (-1 : Int32) else 0)) (hO : ∀ i, i < 3 → sSl r (846 + 40 * (3 * k + i)) 40 = fun _ => 0) (hF : ∀ i, i < 3 → sSf f (40 * (3 * k + i)) 40 = fun _ => 0) (hs0 : ∀ i, i < 3 → r (96 + (3 * k + i)) = 0) (h_q : M0 q = some (eO 6 [.int 0, .null, .int 0])) : mMet l yX8_init_2 (ws_ yX8_init_2 cX8_init_2 3 none) (mRm 3 13 375) [.ref q, .int x] G (pPre M0) (fun _ ρ M1 => ρ = none ∧ pkNew G q k r f dv M0 M1) := by
  refine mMet.of (by decide +kernel) (Nat.le_of_ble_eq_true rfl) fun p e s m args below meth c A Q M hM0 F hnm hQ hM ls hl => ?_
  have hM0 : M0 = M := hM0.symm
  subst hM0
  have hl : lv_has ls 3 [(0, .ref q), (1, .int x)] := hl
  have hN : NewB M0 q M0 := fun a x h _ => h
  have hb0 := h_q
  refine lv_aload_n F.1.1 F.1.2.1 dX8_init_2_0 rfl (lv_at hl 0 rfl) ?_
  refine mr_obj F q1082 hl.1 (Nat.le_of_ble_eq_true rfl) (Nat.le_of_ble_eq_true rfl) dX8_init_2_1 ?_
  refine lv_aload_n F.1.1 F.1.2.1 dX8_init_2_4 rfl (lv_at hl 0 rfl) ?_
  refine mr_iconst F 3 dX8_init_2_5 (by decide +kernel) ?_
  refine mr_newQ F hM 7 q1083 q1084 rfl (Nat.le_of_ble_eq_true rfl) (Nat.le_of_ble_eq_true rfl) (Nat.le_of_ble_eq_true rfl) dX8_init_2_6 (fun u6 H hq_u6 hM => ?_)
  have n_q_u6 := kp_ne hq_u6 h_q
  have h_q := nw_new hM hq_u6 h_q
  have w_u6 := nw_F hq_u6 hN
  have z_u6 := hN.none hb0 hq_u6
  have hb0 := nw_new hM hq_u6 hb0
  have hN := nw_N hM hq_u6 hN
  have h_u6 := nw_self hM
  refine cf6 F hM h_q 1 (by decide) q1128 (fun x h => h) rfl hnm rfl rfl rfl (Nat.le_of_ble_eq_true rfl) dX8_init_2_9 (fun H locs hM => ?_)
  have h_u6 := nw_put hM (Ne.symm n_q_u6) h_u6
  have hN := nw_NB hM hN
  have h_q := nw_self hM
  have hb0 := h_q
  refine lv_aload_n F.1.1 F.1.2.1 dX8_init_2_12 rfl (lv_at hl 0 rfl) ?_
  refine lv_iconst (v := -1) F.1.1 F.1.2.1 dX8_init_2_13 (by decide +kernel) ?_
  refine cp6 F hM h_q 2 (by decide) q1131 (fun x h => h) rfl rfl rfl (Nat.le_of_ble_eq_true rfl) dX8_init_2_14 (fun H locs hM => ?_)
  have h_u6 := nw_put hM (Ne.symm n_q_u6) h_u6
  have hN := nw_NB hM hN
  have h_q := nw_self hM
  have hb0 := h_q
  refine lv_aload_n F.1.1 F.1.2.1 dX8_init_2_17 rfl (lv_at hl 0 rfl) ?_
  refine lv_iload_n F.1.1 F.1.2.1 dX8_init_2_18 rfl (lv_at hl 1 rfl) ?_
  refine cf6 F hM h_q 0 (by decide) q1125 (fun x h => h) rfl hnm rfl rfl rfl (Nat.le_of_ble_eq_true rfl) dX8_init_2_19 (fun H locs hM => ?_)
  have h_u6 := nw_put hM (Ne.symm n_q_u6) h_u6
  have hN := nw_NB hM hN
  have h_q := nw_self hM
  have hb0 := h_q
  have h_q : _ = some (eO 6 [.int (r (90 + k)), .ref u6, .int (dv k)]) := h_q.trans (by rw [hbx, hdv]; rfl)
  refine mr_iconst F 0 dX8_init_2_22 (by decide +kernel) ?_
  refine lv_istore_n (lv' := [(2, _), (0, _), (1, _)]) F.1.1 F.1.2.1 dX8_init_2_23 rfl hl (by decide) rfl (fun ls hl => ?_)
  have lp : ∀ j i : Nat, i + j = 3 → ∀ (Mx : mM) (ap : Nat → Nat) (H : Heap) (locs : List Loc), mWd G A s.heap Mx H locs → NewB M0 q Mx → Mx q = some (eO 6 [.int (r (90 + k)), .ref u6, .int (dv k)]) → Mx u6 = some (eQ (G.2.1 7) 3 (pkA ap k i)) → pkPart G q u6 k i r f dv ap M0 Mx → ∀ ls : Array Slot, lv_has ls 3 [(2, .int (nI i)), (0, .ref q), (1, .int x)] → W p l e (mRm 3 13 375) s m args below meth c H locs (1 + 4 * i) (3 + 124 * i) Q (F0 m 24 ls []) := by
    intro j
    induction j with
    | zero =>
      intro i hi Mx ap H locs hM hN h_q h_u6 hp ls hl
      obtain rfl : i = 3 := by omega
      refine lv_iload_n F.1.1 F.1.2.1 dX8_init_2_24 rfl (lv_at hl 0 rfl) ?_
      refine mr_iconst F 3 dX8_init_2_25 (by decide +kernel) ?_
      refine mr_icmp_geN F (tgt := 48) dX8_init_2_26 (by decide) (by omega) (by omega) (fun c26 => ?_) (fun c26 => ?_)
      · exact mr_vret F hQ hM ⟨rfl, pkNew.of hk hN h_q h_u6 hp⟩ (Nat.le_of_ble_eq_true rfl) (Nat.le_of_ble_eq_true rfl) dX8_init_2_48
      · exact absurd c26 (by omega)
    | succ j ih =>
      intro i hi Mx ap H locs hM hN h_q h_u6 hp ls hl
      have hN9 := hN
      have h_q9 := h_q
      have h_u69 := h_u6
      have hb0 := h_q
      refine lv_iload_n F.1.1 F.1.2.1 dX8_init_2_24 rfl (lv_at hl 0 rfl) ?_
      refine mr_iconst F 3 dX8_init_2_25 (by decide +kernel) ?_
      refine mr_icmp_geN F (tgt := 48) dX8_init_2_26 (by decide) (by omega) (by omega) (fun c26 => ?_) (fun c26 => ?_)
      · exact absurd c26 (by omega)
      · refine lv_aload_n F.1.1 F.1.2.1 dX8_init_2_29 rfl (lv_at hl 1 rfl) ?_
        refine cg6 F hM h_q 1 (by decide) q1128 (fun x h => h) rfl dX8_init_2_30 ?_
        refine lv_iload_n F.1.1 F.1.2.1 dX8_init_2_33 rfl (lv_at hl 0 rfl) ?_
        refine cn7 F hM q1083 (show 1 + 4 * i + 1 ≤ 13 by omega) (show 3 + 124 * i + 4 ≤ 375 by omega) dX8_init_2_34 (fun x1 H hq_x1 hM => ?_)
        have n_q_x1 := kp_ne hq_x1 h_q
        have n_u6_x1 := kp_ne hq_x1 h_u6
        have h_q := nw_new hM hq_x1 h_q
        have h_u6 := nw_new hM hq_x1 h_u6
        have w_x1 := nw_F hq_x1 hN
        have z_x1 := hN.none hb0 hq_x1
        have hb0 := nw_new hM hq_x1 hb0
        have hN := nw_N hM hq_x1 hN
        have h_x1 := nw_self hM
        refine lv_dup F.1.1 F.1.2.1 dX8_init_2_37 rfl ?_
        refine mc_I (As := []) F hM (cs_X9_init_2 l h_x1) (cwI 0 F.1.2.2.2.2 (lw_meth q1348) rfl rfl rfl (F.1.2.2.2.2 _ q95) (F.1.2.2.2.2 _ q1346) (F.1.2.2.2.2 _ q1347) rfl (by decide +kernel) (mRm_ok (by decide) (by decide))) rfl rfl hl.1 rfl (Nat.le_of_ble_eq_true rfl) dX8_init_2_38 ⟨(show 1 + 4 * i + 1 + 3 ≤ 13 by omega), (show 3 + 124 * i + 4 + 120 ≤ 375 by omega)⟩ (fun ρ38 M38 H locs hP38 hM hz38 => ?_)
        obtain ⟨rfl, hP38⟩ := hP38
        have hsu : suMade G x1 (sSl r (126 + 40 * (3 * k + i)) 40) (sSl r (846 + 40 * (3 * k + i)) 40) (sSf f (40 * (3 * k + i)) 40) (r (96 + (3 * k + i))) Mx M38 := by rw [hV i (by omega), hO i (by omega), hF i (by omega), hs0 i (by omega)]; exact suMade.of hq_x1 hP38
        obtain ⟨fsx, hx1⟩ := hsu.cell
        have hNx := hsu.new
        refine mr_aast F.1.1 F.1.2.1 F.2.1 hM 7 7 (hNx _ _ h_u69) rfl hx1 rfl (by omega) (by omega) dX8_init_2_41 (fun H locs hM => ?_)
        obtain ⟨ap2, hp2, he2⟩ := pkStep (by omega) (by omega) hN9 h_q9 h_u69 hp hsu
        have h_q2 := nw_put hM n_q_u6 (hNx _ _ h_q9)
        have h_u62 := (nw_self hM).trans (by rw [he2])
        have hN2 : NewB M0 q _ := fun a x h hb => nw_put hM (w_u6 a x h hb) (hNx _ _ (hN9 a x h hb))
        refine lv_iinc (lv' := [(2, _), (0, _), (1, _)]) F.1.1 F.1.2.1 dX8_init_2_42 hl (k := 0) rfl (nK_add _ 1) (by decide) rfl (fun ls hl => ?_)
        refine lv_goto (tgt := 24) F.1.1 F.1.2.1 dX8_init_2_45 (by decide) ?_
        have hh := ih (i + 1) (by omega) _ ap2 _ _ hM hN2 h_q2 h_u62 hp2 _ (lv_sub hl [0, 1, 2] rfl)
        rw [show 1 + 4 * (i + 1) = 1 + 4 * i + 1 + 3 by omega, show 3 + 124 * (i + 1) = 3 + 124 * i + 4 + 120 by omega] at hh
        exact hh
  exact lp 3 0 rfl _ _ _ _ hM hN h_q h_u6 (pkPart.start (by omega) n_q_u6 z_u6) _ hl
