/-! THE SYSTEM: a fresh State -/
set_option maxHeartbeats 4000000 in
theorem cs_X2_init (l : Launch) {G : mG} {M0 : mM} {r : Nat → Int32} {f : Nat → UInt32} {dv : Nat → Int32} {q : Nat} (h88 : r 88 = 4) (h114 : r 114 = 0) (h115 : r 115 = 0) (hr4 : sSl r 116 4 = fun _ => 0) (hr5 : sSl r 120 6 = fun _ => 0) (h48 : ∀ d, d < 4 → r (48 + d) = 0) (h52 : ∀ d, d < 4 → r (52 + d) = 0) (h56 : ∀ d, d < 4 → r (56 + d) = 0) (h60 : ∀ d, d < 4 → r (60 + d) = -1) (hL : ∀ d, d < 4 → sSl r (64 + 6 * d) 6 = fun _ => 0) (hH : ∀ d, d < 4 → ∀ j, j < 4 → sFH r (4 * d + j) = [.int 0, .int 0, .int 0]) (h_q : M0 q = some (eO 1 [.null, .null, .null, .null, .int 0, .int 0, .int 0])) : mMet l yX2_init (ws_ yX2_init cX2_init 2 none) (mRm 5 32 129) [.ref q] G (pPre M0) (fun _ ρ M1 => ρ = none ∧ stNew G q r f dv M0 M1) := by
  refine mMet.of (by decide +kernel) (Nat.le_of_ble_eq_true rfl) fun p e s m args below meth c A Q M hM0 F hnm hQ hM ls hl => ?_
  have hM0 : M0 = M := hM0.symm
  subst hM0
  have hl : lv_has ls 2 [(0, .ref q)] := hl
  have hN : NewB M0 q M0 := fun a x h _ => h
  have hb0 := h_q
  refine lv_aload_n F.1.1 F.1.2.1 dX2_init_0 rfl (lv_at hl 0 rfl) ?_
  refine mr_obj F q120 hl.1 (Nat.le_of_ble_eq_true rfl) (Nat.le_of_ble_eq_true rfl) dX2_init_1 ?_
  refine lv_aload_n F.1.1 F.1.2.1 dX2_init_4 rfl (lv_at hl 0 rfl) ?_
  refine mr_iconst F 4 dX2_init_5 (by decide +kernel) ?_
  refine mr_newQ F hM 6 q121 q122 rfl (Nat.le_of_ble_eq_true rfl) (Nat.le_of_ble_eq_true rfl) (Nat.le_of_ble_eq_true rfl) dX2_init_6 (fun u6 H hq_u6 hM => ?_)
  have n_q_u6 := kp_ne hq_u6 h_q
  have h_q := nw_new hM hq_u6 h_q
  have w_u6 := nw_F hq_u6 hN
  have z_u6 := hN.none hb0 hq_u6
  have hb0 := nw_new hM hq_u6 hb0
  have hN := nw_N hM hq_u6 hN
  have h_u6 := nw_self hM
  refine cf1 F hM h_q 0 (by decide) q306 (fun x h => h) rfl hnm rfl rfl rfl (Nat.le_of_ble_eq_true rfl) dX2_init_9 (fun H locs hM => ?_)
  have h_u6 := nw_put hM (Ne.symm n_q_u6) h_u6
  have hN := nw_NB hM hN
  have h_q := nw_self hM
  have hb0 := h_q
  refine lv_aload_n F.1.1 F.1.2.1 dX2_init_12 rfl (lv_at hl 0 rfl) ?_
  refine cn9 F hM q123 (Nat.le_of_ble_eq_true rfl) (Nat.le_of_ble_eq_true rfl) dX2_init_13 (fun u13 H hq_u13 hM => ?_)
  have n_q_u13 := kp_ne hq_u13 h_q
  have n_u6_u13 := kp_ne hq_u13 h_u6
  have h_q := nw_new hM hq_u13 h_q
  have h_u6 := nw_new hM hq_u13 h_u6
  have w_u13 := nw_F hq_u13 hN
  have z_u13 := hN.none hb0 hq_u13
  have hb0 := nw_new hM hq_u13 hb0
  have hN := nw_N hM hq_u13 hN
  have h_u13 := nw_self hM
  refine lv_dup F.1.1 F.1.2.1 dX2_init_16 rfl ?_
  refine mc_I (As := []) F hM (cs_J2_init l (by omega)) (cwI 0 F.1.2.2.2.2 (lw_meth q127) rfl rfl rfl (F.1.2.2.2.2 _ q74) (F.1.2.2.2.2 _ q125) (F.1.2.2.2.2 _ q126) rfl (by decide +kernel) (mRm_ok (by decide) (by decide))) rfl rfl hl.1 rfl (Nat.le_of_ble_eq_true rfl) dX2_init_17 ⟨Nat.le_of_ble_eq_true rfl, Nat.le_of_ble_eq_true rfl⟩ (fun ρ17 M17 H locs hP17 hM hz17 => ?_)
  obtain ⟨rfl, hNB, hc_u13⟩ := hP17
  have h_q := hNB _ _ h_q n_q_u13
  have h_u6 := hNB _ _ h_u6 n_u6_u13
  have hb0 := h_q
  have hN : NewB M0 q _ := fun a x h hb => hNB _ _ (hN a x h hb) (w_u13 a x h hb)
  have h_u13 := hc_u13
  refine cf1 F hM h_q 1 (by decide) q308 (fun x h => h) rfl hnm rfl rfl rfl (Nat.le_of_ble_eq_true rfl) dX2_init_20 (fun H locs hM => ?_)
  have h_u6 := nw_put hM (Ne.symm n_q_u6) h_u6
  have h_u13 := nw_put hM (Ne.symm n_q_u13) h_u13
  have hN := nw_NB hM hN
  have h_q := nw_self hM
  have hb0 := h_q
  refine lv_aload_n F.1.1 F.1.2.1 dX2_init_23 rfl (lv_at hl 0 rfl) ?_
  refine mr_iconst F 4 dX2_init_24 (by decide +kernel) ?_
  refine cp1 F hM h_q 4 (by decide) q314 (fun x h => h) rfl rfl rfl (Nat.le_of_ble_eq_true rfl) dX2_init_25 (fun H locs hM => ?_)
  have h_u6 := nw_put hM (Ne.symm n_q_u6) h_u6
  have h_u13 := nw_put hM (Ne.symm n_q_u13) h_u13
  have hN := nw_NB hM hN
  have h_q := nw_self hM
  have hb0 := h_q
  refine lv_aload_n F.1.1 F.1.2.1 dX2_init_28 rfl (lv_at hl 0 rfl) ?_
  refine mr_iconst F 4 dX2_init_29 (by decide +kernel) ?_
  refine mr_newi F.1.1 F.1.2.1 F.1.2.2.2.2 q186 F.2.1 hM F.2.2.2.2.1 (Nat.le_of_ble_eq_true rfl) (Nat.le_of_ble_eq_true rfl) (Nat.le_of_ble_eq_true rfl) dX2_init_30 (fun u30 H hq_u30 _ hM => ?_)
  have n_q_u30 := kp_ne hq_u30 h_q
  have n_u6_u30 := kp_ne hq_u30 h_u6
  have n_u13_u30 := kp_ne hq_u30 h_u13
  have h_q := nw_new hM hq_u30 h_q
  have h_u6 := nw_new hM hq_u30 h_u6
  have h_u13 := nw_new hM hq_u30 h_u13
  have w_u30 := nw_F hq_u30 hN
  have z_u30 := hN.none hb0 hq_u30
  have hb0 := nw_new hM hq_u30 hb0
  have hN := nw_N hM hq_u30 hN
  have h_u30 := nw_self hM
  refine cf1 F hM h_q 2 (by decide) q310 (fun x h => h) rfl hnm rfl rfl rfl (Nat.le_of_ble_eq_true rfl) dX2_init_32 (fun H locs hM => ?_)
  have h_u6 := nw_put hM (Ne.symm n_q_u6) h_u6
  have h_u13 := nw_put hM (Ne.symm n_q_u13) h_u13
  have h_u30 := nw_put hM (Ne.symm n_q_u30) h_u30
  have hN := nw_NB hM hN
  have h_q := nw_self hM
  have hb0 := h_q
  refine lv_aload_n F.1.1 F.1.2.1 dX2_init_35 rfl (lv_at hl 0 rfl) ?_
  refine mr_bipush F 6 dX2_init_36 (by decide +kernel) ?_
  refine mr_newi F.1.1 F.1.2.1 F.1.2.2.2.2 q186 F.2.1 hM F.2.2.2.2.1 (Nat.le_of_ble_eq_true rfl) (Nat.le_of_ble_eq_true rfl) (Nat.le_of_ble_eq_true rfl) dX2_init_38 (fun u38 H hq_u38 _ hM => ?_)
  have n_q_u38 := kp_ne hq_u38 h_q
  have n_u6_u38 := kp_ne hq_u38 h_u6
  have n_u13_u38 := kp_ne hq_u38 h_u13
  have n_u30_u38 := kp_ne hq_u38 h_u30
  have h_q := nw_new hM hq_u38 h_q
  have h_u6 := nw_new hM hq_u38 h_u6
  have h_u13 := nw_new hM hq_u38 h_u13
  have h_u30 := nw_new hM hq_u38 h_u30
  have w_u38 := nw_F hq_u38 hN
  have z_u38 := hN.none hb0 hq_u38
  have hb0 := nw_new hM hq_u38 hb0
  have hN := nw_N hM hq_u38 hN
  have h_u38 := nw_self hM
  refine cf1 F hM h_q 3 (by decide) q312 (fun x h => h) rfl hnm rfl rfl rfl (Nat.le_of_ble_eq_true rfl) dX2_init_40 (fun H locs hM => ?_)
  have h_u6 := nw_put hM (Ne.symm n_q_u6) h_u6
  have h_u13 := nw_put hM (Ne.symm n_q_u13) h_u13
  have h_u30 := nw_put hM (Ne.symm n_q_u30) h_u30
  have h_u38 := nw_put hM (Ne.symm n_q_u38) h_u38
  have hN := nw_NB hM hN
  have h_q := nw_self hM
  have hb0 := h_q
  have h_q : _ = some (eO 1 [.ref u6, .ref u13, .ref u30, .ref u38, .int (r 88), .int (r 114), .int (r 115)]) := h_q.trans (by rw [h88, h114, h115]; rfl)
  have h_u30 := h_u30.trans (by rw [← hr4])
  have h_u38 := h_u38.trans (by rw [← hr5])
  refine mr_iconst F 0 dX2_init_43 (by decide +kernel) ?_
  refine lv_istore_n (lv' := [(1, _), (0, _)]) F.1.1 F.1.2.1 dX2_init_44 rfl hl (by decide) rfl (fun ls hl => ?_)
  have lp : ∀ j i : Nat, i + j = 4 → ∀ (Mx : mM) (ad : Nat → Nat) (H : Heap) (locs : List Loc), mWd G A s.heap Mx H locs → NewB M0 q Mx → Mx q = some (eO 1 [.ref u6, .ref u13, .ref u30, .ref u38, .int (r 88), .int (r 114), .int (r 115)]) → Mx u6 = some (eQ (G.2.1 6) 4 (sSa ad 10 i)) → stPart G q u6 i r f dv ad M0 Mx → ad 2 = u13 → ad 4 = u30 → ad 5 = u38 → ∀ ls : Array Slot, lv_has ls 2 [(1, .int (nI i)), (0, .ref q)] → W p l e (mRm 5 32 129) s m args below meth c H locs (4 + 7 * i) (17 + 28 * i) Q (F0 m 45 ls []) := by
    intro j
    induction j with
    | zero =>
      intro i hi Mx ad H locs hM hN h_q h_u6 hp e2 e4 e5 ls hl
      obtain rfl : i = 4 := by omega
      refine lv_iload_n F.1.1 F.1.2.1 dX2_init_45 rfl (lv_at hl 0 rfl) ?_
      refine mr_iconst F 4 dX2_init_46 (by decide +kernel) ?_
      refine mr_icmp_geN F (tgt := 69) dX2_init_47 (by decide) (by omega) (by omega) (fun c47 => ?_) (fun c47 => ?_)
      · exact mr_vret F hQ hM ⟨rfl, stNew.of hN hp (by rw [e2, e4, e5]; exact h_q) h_u6⟩ (Nat.le_of_ble_eq_true rfl) (Nat.le_of_ble_eq_true rfl) dX2_init_69
      · exact absurd c47 (by omega)
    | succ j ih =>
      intro i hi Mx ad H locs hM hN h_q h_u6 hp e2 e4 e5 ls hl
      have hN9 := hN
      have h_q9 := h_q
      have h_u69 := h_u6
      have hb0 := h_q
      refine lv_iload_n F.1.1 F.1.2.1 dX2_init_45 rfl (lv_at hl 0 rfl) ?_
      refine mr_iconst F 4 dX2_init_46 (by decide +kernel) ?_
      refine mr_icmp_geN F (tgt := 69) dX2_init_47 (by decide) (by omega) (by omega) (fun c47 => ?_) (fun c47 => ?_)
      · exact absurd c47 (by omega)
      · refine lv_aload_n F.1.1 F.1.2.1 dX2_init_50 rfl (lv_at hl 1 rfl) ?_
        refine cg1 F hM h_q 0 (by decide) q306 (fun x h => h) rfl dX2_init_51 ?_
        refine lv_iload_n F.1.1 F.1.2.1 dX2_init_54 rfl (lv_at hl 0 rfl) ?_
        refine cn2 F hM q121 (show 4 + 7 * i + 1 ≤ 32 by omega) (show 17 + 28 * i + 7 ≤ 129 by omega) dX2_init_55 (fun x1 H hq_x1 hM => ?_)
        have n_q_x1 := kp_ne hq_x1 h_q
        have n_u6_x1 := kp_ne hq_x1 h_u6
        have h_q := nw_new hM hq_x1 h_q
        have h_u6 := nw_new hM hq_x1 h_u6
        have w_x1 := nw_F hq_x1 hN
        have z_x1 := hN.none hb0 hq_x1
        have hb0 := nw_new hM hq_x1 hb0
        have hN := nw_N hM hq_x1 hN
        have h_x1 := nw_self hM
        refine lv_dup F.1.1 F.1.2.1 dX2_init_58 rfl ?_
        refine mc_I (As := []) F hM (cs_X3_init l (f := f) (dv := dv) (d := i) (by omega) (h48 i (by omega)) (h52 i (by omega)) (h56 i (by omega)) (h60 i (by omega)) (hL i (by omega)) (hH i (by omega)) h_x1) (cwI 0 F.1.2.2.2.2 (lw_meth q152) rfl rfl rfl (F.1.2.2.2.2 _ q75) (F.1.2.2.2.2 _ q150) (F.1.2.2.2.2 _ q151) rfl (by decide +kernel) (mRm_ok (by decide) (by decide))) rfl rfl hl.1 rfl (Nat.le_of_ble_eq_true rfl) dX2_init_59 ⟨(show 4 + 7 * i + 1 + 6 ≤ 32 by omega), (show 17 + 28 * i + 7 + 21 ≤ 129 by omega)⟩ (fun ρ59 M59 H locs hP59 hM hz59 => ?_)
        obtain ⟨rfl, hP59⟩ := hP59
        have hsu := drMade.of hq_x1 hP59
        obtain ⟨fsx, hx1, hNx⟩ := drMade.cell (by omega) hsu
        refine mr_aast F.1.1 F.1.2.1 F.2.1 hM 6 2 (hNx _ _ h_u69) rfl hx1 rfl (by omega) (by omega) dX2_init_62 (fun H locs hM => ?_)
        obtain ⟨ad2, hp2, he2, hk2⟩ := stStep (by omega) hN9 h_q9 h_u69 hp hsu
        have h_q2 := nw_put hM n_q_u6 (hNx _ _ h_q9)
        have h_u62 := (nw_self hM).trans (by rw [he2])
        have hN2 : NewB M0 q _ := fun a x h hb => nw_put hM (w_u6 a x h hb) (hNx _ _ (hN9 a x h hb))
        refine lv_iinc (lv' := [(1, _), (0, _)]) F.1.1 F.1.2.1 dX2_init_63 hl (k := 0) rfl (nK_add _ 1) (by decide) rfl (fun ls hl => ?_)
        refine lv_goto (tgt := 45) F.1.1 F.1.2.1 dX2_init_66 (by decide) ?_
        have hh := ih (i + 1) (by omega) _ ad2 _ _ hM hN2 h_q2 h_u62 hp2 ((hk2 2 (by omega)).trans e2) ((hk2 4 (by omega)).trans e4) ((hk2 5 (by omega)).trans e5) _ (lv_sub hl [0, 1] rfl)
        rw [show 4 + 7 * (i + 1) = 4 + 7 * i + 1 + 6 by omega, show 17 + 28 * (i + 1) = 17 + 28 * i + 7 + 21 by omega] at hh
        exact hh
  exact lp 4 0 rfl _ _ _ _ hM hN h_q h_u6 (stPart.start n_q_u6 n_q_u13 n_q_u30 n_q_u38 n_u6_u13 n_u6_u30 n_u6_u38 n_u13_u30 n_u13_u38 n_u30_u38 z_u6 z_u13 z_u30 z_u38 h_u13 h_u30 h_u38) rfl rfl rfl _ hl
