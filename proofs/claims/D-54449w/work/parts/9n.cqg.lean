/-! THE TEXT READER: an order -/
set_option maxHeartbeats 4000000 in
theorem cs_X10_order (l : Launch) {G : mG} {M0 : mM} {rd x q v eb cap nb pl mn : Nat} {z : Int32} {t b : Nat → Int32} {vs vn vq : Value} {fn : Nat → Option Nat} (h_rd : M0 rd = some (eO 8 [.int (nI pl), .int (rW true), .ref eb, .int (nI mn), .ref x])) (h_x : M0 x = some (eO 0 [vs, vn, vq, .ref q])) (h_q : M0 q = some (eO 11 [.ref v, .int (nI 0), .int z, .int (nI nb)])) (h_v : M0 v = some (eI (G.2.1 3) cap t)) (n_q_v : q ≠ v) (n_rd_x : rd ≠ x) (n_rd_q : rd ≠ q) (n_rd_v : rd ≠ v) (h_eb : M0 eb = some (eQ (G.2.1 8) 60 fn)) (n_rd_eb : rd ≠ eb) (n_x_eb : x ≠ eb) (n_q_eb : q ≠ eb) (n_v_eb : v ≠ eb) (h2 : nb ≤ cap) (h3 : cap ≤ 100) (hpl : pl ≤ 99) (hb : rTx b t nb) (hnb : nb ≤ 60) (hmn : mn ≤ pl) : mMet l yX10_order (ws_ yX10_order cX10_order 3 none) (mRm 9 1 3) [.ref rd] G (pPre M0) (fun _ ρ M1 => ρ = none ∧ rOP G rd eb x mn fn (tSg b nb pl) (tPart b nb (tSg b nb pl) pl) M0 M1) := by
  refine mMet.of (by decide +kernel) (Nat.le_of_ble_eq_true rfl) fun p e s m args below meth c A Q M hM0 F hnm hQ hM ls hl => ?_
  have hM0 : M0 = M := hM0.symm
  subst hM0
  have hl : lv_has ls 3 [(0, .ref rd)] := hl
  have hN : NewB M0 rd M0 := fun a y h _ => h
  refine lv_aload_n F.1.1 F.1.2.1 dX10_order_0 rfl (lv_at hl 0 rfl) ?_
  refine mc_Va (As := []) F hM (cs_X10_next l h_rd h_x h_q h_v n_q_v h2 h3 (by omega) hb) (cwV 0 F.1.2.2.2.2 (lw_V q763 q765 qs2 q106 q766) rfl rfl rfl (by decide +kernel) (mRm_ok (by decide) (by decide))) h_rd rfl rfl rfl rfl hl.1 rfl (Nat.le_of_ble_eq_true rfl) dX10_order_1 ⟨Nat.le_of_ble_eq_true rfl, Nat.le_of_ble_eq_true rfl⟩ (fun H locs hM => ?_)
  refine lv_istore_n (lv' := [(1, _), (0, _)]) F.1.1 F.1.2.1 dX10_order_4 rfl hl (by decide) rfl (fun ls hl => ?_)
  refine lv_null F.1.1 F.1.2.1 dX10_order_5 ?_
  refine lv_astore_nN (lv' := [(2, _), (1, _), (0, _)]) F.1.1 F.1.2.1 dX10_order_6 rfl hl (by decide) rfl (fun ls hl => ?_)
  refine lv_iload_n F.1.1 F.1.2.1 dX10_order_7 rfl (lv_at hl 1 rfl) ?_
  rcases rSg_cs (pl := pl) hb with (hL | hL | hL | hL | hL | hL | hL | hL | hL | hL | hL | hL | hL | hL | hL | hL | hL | hL | hL | hL | hL) | ⟨c0, hc, hL, hcn⟩
  · rw [hL]
    obtain ⟨hlt, htL⟩ := rSg_L hb (by decide) (by decide) hL
    have hP := rP_c (pl := pl) hb
    refine lv_tableIn (off := 238) (tgt := 246) F.1.1 F.1.2.1 dX10_order_8 (by decide) (by decide) rfl (by decide) ?_
    refine lv_aload_n F.1.1 F.1.2.1 dX10_order_246 rfl (lv_at hl 2 rfl) ?_
    refine lv_dup F.1.1 F.1.2.1 dX10_order_247 rfl ?_
    refine cg8 F hM h_rd 0 (by decide) q738 (fun x h => h) rfl dX10_order_248 ?_
    refine mr_iconst F 1 dX10_order_251 (by decide +kernel) ?_
    refine mr_iaddN F dX10_order_252 ?_
    refine cp8 F hM h_rd 0 (by decide) q738 (fun x h => h) rfl rfl rfl (Nat.le_of_ble_eq_true rfl) dX10_order_253 (fun H locs hM => ?_)
    have h_x := nw_put hM (Ne.symm n_rd_x) h_x
    have h_q := nw_put hM (Ne.symm n_rd_q) h_q
    have h_v := nw_put hM (Ne.symm n_rd_v) h_v
    have h_eb := nw_put hM (Ne.symm n_rd_eb) h_eb
    have h_rd := nw_self hM
    have hN := nw_NB hM hN
    refine lv_aload_n F.1.1 F.1.2.1 dX10_order_256 rfl (lv_at hl 2 rfl) ?_
    refine lv_aload_n F.1.1 F.1.2.1 dX10_order_257 rfl (lv_at hl 2 rfl) ?_
    refine mr_iconst F 5 dX10_order_258 (by decide +kernel) ?_
    refine mc_V (As := [_]) F hM (cs_X10_number l h_rd h_x h_q h_v n_q_v n_rd_x n_rd_q n_rd_v h2 h3 (by omega) hb (by decide) (by decide)) (cwV 1 F.1.2.2.2.2 (lw_V q783 q785 qs3 q106 q786) rfl rfl rfl (by decide +kernel) (mRm_ok (by decide) (by decide))) rfl h_rd rfl rfl rfl hl.1 rfl (Nat.le_of_ble_eq_true rfl) dX10_order_259 ⟨Nat.le_of_ble_eq_true rfl, Nat.le_of_ble_eq_true rfl⟩ (fun ρ259 M259 H locs hP259 hM hz259 => ?_)
    obtain ⟨u0, rfl, hu0, rfl⟩ := hP259
    have hle : (rN2 b nb 5 pl).1 ≤ nb := rNum_le hb (by omega)
    have h_x := nw_put hM (Ne.symm n_rd_x) h_x
    have h_q := nw_put hM (Ne.symm n_rd_q) h_q
    have h_v := nw_put hM (Ne.symm n_rd_v) h_v
    have h_eb := nw_put hM (Ne.symm n_rd_eb) h_eb
    have hN := nw_NB hM hN
    have h_rd := nw_self hM
    refine mc_V (As := [_]) F hM (cs_X10_polishing l ) (cwV 1 F.1.2.2.2.2 (lw_V q984 q986 qs17 q106 q987) rfl rfl rfl (by decide +kernel) (mRm_ok (by decide) (by decide))) rfl h_rd rfl rfl rfl hl.1 rfl (Nat.le_of_ble_eq_true rfl) dX10_order_262 ⟨Nat.le_of_ble_eq_true rfl, Nat.le_of_ble_eq_true rfl⟩ (fun ρ262 M262 H locs hP262 hM hz262 => ?_)
    obtain ⟨o, rfl, hq_o, rfl⟩ := hP262
    have z_o := hN.none h_rd hq_o
    have n_eb_o := kp_ne hq_o h_eb
    have n_rd_o := kp_ne hq_o h_rd
    have hN := nw_N hM hq_o hN
    have h_eb := nw_new hM hq_o h_eb
    have h_rd := nw_new hM hq_o h_rd
    have h_o := nw_self hM
    refine lv_astore_n (lv' := [(2, _), (1, _), (0, _)]) F.1.1 F.1.2.1 dX10_order_265 rfl hl (by decide) rfl (fun ls hl => ?_)
    refine lv_goto (tgt := 297) F.1.1 F.1.2.1 dX10_order_266 (by decide) ?_
    refine lv_aload_n F.1.1 F.1.2.1 dX10_order_297 rfl (lv_at hl 2 rfl) ?_
    refine cg8 F hM h_rd 1 (by decide) q740 (fun x h => h) rfl dX10_order_298 ?_
    refine lv_if_ne (tgt := 324) F.1.1 F.1.2.1 dX10_order_301 (by decide) (fun c301 => ?_) (fun c301 => ?_)
    · have hw := rW_1 c301
      exact mr_vret F hQ hM ⟨rfl, by rw [htL, hP]; exact rOP.bad hw (h_rd.trans (congrArg (fun y => some (eO 8 [.int _, .int (rW y), .ref eb, .int _, .ref x])) hw)) h_eb hN⟩ (Nat.le_of_ble_eq_true rfl) (Nat.le_of_ble_eq_true rfl) dX10_order_324
    · have hw := rW_0 c301
      have hN9 := hN
      obtain rfl := hu0 hw
      refine lv_aload_n F.1.1 F.1.2.1 dX10_order_304 rfl (lv_at hl 2 rfl) ?_
      refine cg8 F hM h_rd 2 (by decide) q741 (fun x h => h) rfl dX10_order_305 ?_
      refine lv_aload_n F.1.1 F.1.2.1 dX10_order_308 rfl (lv_at hl 2 rfl) ?_
      refine cg8 F hM h_rd 3 (by decide) q742 (fun x h => h) rfl dX10_order_309 ?_
      refine lv_aload_n F.1.1 F.1.2.1 dX10_order_312 rfl (lv_at hl 0 rfl) ?_
      refine mr_aastL F hM 8 h_eb rfl (k := 9) rfl h_o (by omega) (by omega) dX10_order_313 (fun H locs hM => ?_)
      have h_rd := nw_put hM n_rd_eb h_rd
      have h_o := nw_put hM (Ne.symm n_eb_o) h_o
      have h_eb := nw_self hM
      refine lv_aload_n F.1.1 F.1.2.1 dX10_order_314 rfl (lv_at hl 2 rfl) ?_
      refine lv_dup F.1.1 F.1.2.1 dX10_order_315 rfl ?_
      refine cg8 F hM h_rd 3 (by decide) q742 (fun x h => h) rfl dX10_order_316 ?_
      refine mr_iconst F 1 dX10_order_319 (by decide +kernel) ?_
      refine mr_iaddN F dX10_order_320 ?_
      refine cp8 F hM h_rd 3 (by decide) q742 (fun x h => h) rfl rfl rfl (Nat.le_of_ble_eq_true rfl) dX10_order_321 (fun H locs hM => ?_)
      have h_eb := nw_put hM (Ne.symm n_rd_eb) h_eb
      have h_o := nw_put hM (Ne.symm n_rd_o) h_o
      have h_rd := nw_self hM
      exact mr_vret F hQ hM ⟨rfl, by rw [htL, hP]; exact rOP.ok (o := o) hw z_o h_o (h_rd.trans (congrArg (fun y => some (eO 8 [.int _, .int (rW y), .ref eb, .int _, .ref x])) hw)) h_eb (fun a y h hr he => kp_put hr (kp_put he (hN9 a y h hr)))⟩ (Nat.le_of_ble_eq_true rfl) (Nat.le_of_ble_eq_true rfl) dX10_order_324
  · rw [hL]
    have hno := rP1_no hb (show 100 < 127 by decide) hL (by decide)
    refine lv_tableIn (off := 284) (tgt := 292) F.1.1 F.1.2.1 dX10_order_8 (by decide) (by decide) rfl (by decide) ?_
    refine lv_aload_n F.1.1 F.1.2.1 dX10_order_292 rfl (lv_at hl 2 rfl) ?_
    refine mr_iconst F 1 dX10_order_293 (by decide +kernel) ?_
    refine cp8 F hM h_rd 1 (by decide) q740 (fun x h => h) rfl (by first | rfl | exact nZ_bI _) (by first | rfl | exact fZ_bI _) (Nat.le_of_ble_eq_true rfl) dX10_order_294 (fun H locs hM => ?_)
    have h_x := nw_put hM (Ne.symm n_rd_x) h_x
    have h_q := nw_put hM (Ne.symm n_rd_q) h_q
    have h_v := nw_put hM (Ne.symm n_rd_v) h_v
    have h_eb := nw_put hM (Ne.symm n_rd_eb) h_eb
    have h_rd := nw_self hM
    refine lv_aload_n F.1.1 F.1.2.1 dX10_order_297 rfl (lv_at hl 2 rfl) ?_
    refine cg8 F hM h_rd 1 (by decide) q740 (fun x h => h) rfl dX10_order_298 ?_
    refine mr_ifneN F (tgt := 324) dX10_order_301 (by decide) (by omega) (fun c301 => ?_) (fun c301 => ?_)
    · exact mr_vret F hQ hM ⟨rfl, by obtain ⟨e1, e2⟩ := rP_no hno; exact rOP.bad e2 (by rw [e1]; exact h_rd) h_eb (fun a y h hr => kp_put hr (hN a y h hr))⟩ (Nat.le_of_ble_eq_true rfl) (Nat.le_of_ble_eq_true rfl) dX10_order_324
    · exact absurd c301 (by omega)
  · rw [hL]
    have hno := rP1_no hb (show 101 < 127 by decide) hL (by decide)
    refine lv_tableIn (off := 284) (tgt := 292) F.1.1 F.1.2.1 dX10_order_8 (by decide) (by decide) rfl (by decide) ?_
    refine lv_aload_n F.1.1 F.1.2.1 dX10_order_292 rfl (lv_at hl 2 rfl) ?_
    refine mr_iconst F 1 dX10_order_293 (by decide +kernel) ?_
    refine cp8 F hM h_rd 1 (by decide) q740 (fun x h => h) rfl (by first | rfl | exact nZ_bI _) (by first | rfl | exact fZ_bI _) (Nat.le_of_ble_eq_true rfl) dX10_order_294 (fun H locs hM => ?_)
    have h_x := nw_put hM (Ne.symm n_rd_x) h_x
    have h_q := nw_put hM (Ne.symm n_rd_q) h_q
    have h_v := nw_put hM (Ne.symm n_rd_v) h_v
    have h_eb := nw_put hM (Ne.symm n_rd_eb) h_eb
    have h_rd := nw_self hM
    refine lv_aload_n F.1.1 F.1.2.1 dX10_order_297 rfl (lv_at hl 2 rfl) ?_
    refine cg8 F hM h_rd 1 (by decide) q740 (fun x h => h) rfl dX10_order_298 ?_
    refine mr_ifneN F (tgt := 324) dX10_order_301 (by decide) (by omega) (fun c301 => ?_) (fun c301 => ?_)
    · exact mr_vret F hQ hM ⟨rfl, by obtain ⟨e1, e2⟩ := rP_no hno; exact rOP.bad e2 (by rw [e1]; exact h_rd) h_eb (fun a y h hr => kp_put hr (hN a y h hr))⟩ (Nat.le_of_ble_eq_true rfl) (Nat.le_of_ble_eq_true rfl) dX10_order_324
    · exact absurd c301 (by omega)
  · rw [hL]
    obtain ⟨hlt, htL⟩ := rSg_L hb (by decide) (by decide) hL
    have hP := rP_f (pl := pl) hb
    refine lv_tableIn (off := 261) (tgt := 269) F.1.1 F.1.2.1 dX10_order_8 (by decide) (by decide) rfl (by decide) ?_
    refine lv_aload_n F.1.1 F.1.2.1 dX10_order_269 rfl (lv_at hl 2 rfl) ?_
    refine lv_dup F.1.1 F.1.2.1 dX10_order_270 rfl ?_
    refine cg8 F hM h_rd 0 (by decide) q738 (fun x h => h) rfl dX10_order_271 ?_
    refine mr_iconst F 1 dX10_order_274 (by decide +kernel) ?_
    refine mr_iaddN F dX10_order_275 ?_
    refine cp8 F hM h_rd 0 (by decide) q738 (fun x h => h) rfl rfl rfl (Nat.le_of_ble_eq_true rfl) dX10_order_276 (fun H locs hM => ?_)
    have h_x := nw_put hM (Ne.symm n_rd_x) h_x
    have h_q := nw_put hM (Ne.symm n_rd_q) h_q
    have h_v := nw_put hM (Ne.symm n_rd_v) h_v
    have h_eb := nw_put hM (Ne.symm n_rd_eb) h_eb
    have h_rd := nw_self hM
    have hN := nw_NB hM hN
    refine lv_aload_n F.1.1 F.1.2.1 dX10_order_279 rfl (lv_at hl 2 rfl) ?_
    refine lv_aload_n F.1.1 F.1.2.1 dX10_order_280 rfl (lv_at hl 2 rfl) ?_
    refine mr_iconst F 3 dX10_order_281 (by decide +kernel) ?_
    refine mc_V (As := [_]) F hM (cs_X10_number l h_rd h_x h_q h_v n_q_v n_rd_x n_rd_q n_rd_v h2 h3 (by omega) hb (by decide) (by decide)) (cwV 1 F.1.2.2.2.2 (lw_V q783 q785 qs3 q106 q786) rfl rfl rfl (by decide +kernel) (mRm_ok (by decide) (by decide))) rfl h_rd rfl rfl rfl hl.1 rfl (Nat.le_of_ble_eq_true rfl) dX10_order_282 ⟨Nat.le_of_ble_eq_true rfl, Nat.le_of_ble_eq_true rfl⟩ (fun ρ282 M282 H locs hP282 hM hz282 => ?_)
    obtain ⟨u0, rfl, hu0, rfl⟩ := hP282
    have hle : (rN2 b nb 3 pl).1 ≤ nb := rNum_le hb (by omega)
    have h_x := nw_put hM (Ne.symm n_rd_x) h_x
    have h_q := nw_put hM (Ne.symm n_rd_q) h_q
    have h_v := nw_put hM (Ne.symm n_rd_v) h_v
    have h_eb := nw_put hM (Ne.symm n_rd_eb) h_eb
    have hN := nw_NB hM hN
    have h_rd := nw_self hM
    refine mc_V (As := [_]) F hM (cs_X10_mending l h_rd h_x h_q h_v n_q_v n_rd_x n_rd_q n_rd_v h2 h3 (Nat.le_trans hle (by omega)) hb hle hnb) (cwV 1 F.1.2.2.2.2 (lw_V q999 q1001 qs18 q106 q1002) rfl rfl rfl (by decide +kernel) (mRm_ok (by decide) (by decide))) rfl h_rd rfl rfl rfl hl.1 rfl (Nat.le_of_ble_eq_true rfl) dX10_order_285 ⟨Nat.le_of_ble_eq_true rfl, Nat.le_of_ble_eq_true rfl⟩ (fun ρ285 M285 H locs hP285 hM hz285 => ?_)
    obtain ⟨o, u1, rfl, hq_o, hu1, rfl⟩ := hP285
    have z_o := hN.none h_rd hq_o
    have n_eb_o := kp_ne hq_o h_eb
    have n_rd_o := kp_ne hq_o h_rd
    have hN := tk_N hM hq_o h_rd hN
    have h_eb := tk_a hM hq_o h_rd (Ne.symm n_rd_eb) h_eb
    have h_rd := tk_r hM hq_o h_rd
    have h_o := tk_o hM
    refine lv_astore_n (lv' := [(2, _), (1, _), (0, _)]) F.1.1 F.1.2.1 dX10_order_288 rfl hl (by decide) rfl (fun ls hl => ?_)
    refine lv_goto (tgt := 297) F.1.1 F.1.2.1 dX10_order_289 (by decide) ?_
    refine lv_aload_n F.1.1 F.1.2.1 dX10_order_297 rfl (lv_at hl 2 rfl) ?_
    refine cg8 F hM h_rd 1 (by decide) q740 (fun x h => h) rfl dX10_order_298 ?_
    refine lv_if_ne (tgt := 324) F.1.1 F.1.2.1 dX10_order_301 (by decide) (fun c301 => ?_) (fun c301 => ?_)
    · have hw := rW_1 c301
      exact mr_vret F hQ hM ⟨rfl, by rw [htL, hP]; exact rOP.bad hw (h_rd.trans (congrArg (fun y => some (eO 8 [.int _, .int (rW y), .ref eb, .int _, .ref x])) hw)) h_eb hN⟩ (Nat.le_of_ble_eq_true rfl) (Nat.le_of_ble_eq_true rfl) dX10_order_324
    · have hw := rW_0 c301
      have hN9 := hN
      have hw2 : rW2 b nb 3 pl = true := tNd_w (tNd_w hw)
      obtain rfl := hu0 hw2
      obtain rfl := hu1 hw
      refine lv_aload_n F.1.1 F.1.2.1 dX10_order_304 rfl (lv_at hl 2 rfl) ?_
      refine cg8 F hM h_rd 2 (by decide) q741 (fun x h => h) rfl dX10_order_305 ?_
      refine lv_aload_n F.1.1 F.1.2.1 dX10_order_308 rfl (lv_at hl 2 rfl) ?_
      refine cg8 F hM h_rd 3 (by decide) q742 (fun x h => h) rfl dX10_order_309 ?_
      refine lv_aload_n F.1.1 F.1.2.1 dX10_order_312 rfl (lv_at hl 0 rfl) ?_
      refine mr_aastL F hM 8 h_eb rfl (k := 10) rfl h_o (by omega) (by omega) dX10_order_313 (fun H locs hM => ?_)
      have h_rd := nw_put hM n_rd_eb h_rd
      have h_o := nw_put hM (Ne.symm n_eb_o) h_o
      have h_eb := nw_self hM
      refine lv_aload_n F.1.1 F.1.2.1 dX10_order_314 rfl (lv_at hl 2 rfl) ?_
      refine lv_dup F.1.1 F.1.2.1 dX10_order_315 rfl ?_
      refine cg8 F hM h_rd 3 (by decide) q742 (fun x h => h) rfl dX10_order_316 ?_
      refine mr_iconst F 1 dX10_order_319 (by decide +kernel) ?_
      refine mr_iaddN F dX10_order_320 ?_
      refine cp8 F hM h_rd 3 (by decide) q742 (fun x h => h) rfl rfl rfl (Nat.le_of_ble_eq_true rfl) dX10_order_321 (fun H locs hM => ?_)
      have h_eb := nw_put hM (Ne.symm n_rd_eb) h_eb
      have h_o := nw_put hM (Ne.symm n_rd_o) h_o
      have h_rd := nw_self hM
      exact mr_vret F hQ hM ⟨rfl, by rw [htL, hP]; exact rOP.ok (o := o) hw z_o h_o (h_rd.trans (congrArg (fun y => some (eO 8 [.int _, .int (rW y), .ref eb, .int _, .ref x])) hw)) h_eb (fun a y h hr he => kp_put hr (kp_put he (hN9 a y h hr)))⟩ (Nat.le_of_ble_eq_true rfl) (Nat.le_of_ble_eq_true rfl) dX10_order_324
  · rw [hL]
    have hno := rP1_no hb (show 103 < 127 by decide) hL (by decide)
    refine lv_tableIn (off := 284) (tgt := 292) F.1.1 F.1.2.1 dX10_order_8 (by decide) (by decide) rfl (by decide) ?_
    refine lv_aload_n F.1.1 F.1.2.1 dX10_order_292 rfl (lv_at hl 2 rfl) ?_
    refine mr_iconst F 1 dX10_order_293 (by decide +kernel) ?_
    refine cp8 F hM h_rd 1 (by decide) q740 (fun x h => h) rfl (by first | rfl | exact nZ_bI _) (by first | rfl | exact fZ_bI _) (Nat.le_of_ble_eq_true rfl) dX10_order_294 (fun H locs hM => ?_)
    have h_x := nw_put hM (Ne.symm n_rd_x) h_x
    have h_q := nw_put hM (Ne.symm n_rd_q) h_q
    have h_v := nw_put hM (Ne.symm n_rd_v) h_v
    have h_eb := nw_put hM (Ne.symm n_rd_eb) h_eb
    have h_rd := nw_self hM
    refine lv_aload_n F.1.1 F.1.2.1 dX10_order_297 rfl (lv_at hl 2 rfl) ?_
    refine cg8 F hM h_rd 1 (by decide) q740 (fun x h => h) rfl dX10_order_298 ?_
    refine mr_ifneN F (tgt := 324) dX10_order_301 (by decide) (by omega) (fun c301 => ?_) (fun c301 => ?_)
    · exact mr_vret F hQ hM ⟨rfl, by obtain ⟨e1, e2⟩ := rP_no hno; exact rOP.bad e2 (by rw [e1]; exact h_rd) h_eb (fun a y h hr => kp_put hr (hN a y h hr))⟩ (Nat.le_of_ble_eq_true rfl) (Nat.le_of_ble_eq_true rfl) dX10_order_324
    · exact absurd c301 (by omega)
  · rw [hL]
    have hno := rP1_no hb (show 104 < 127 by decide) hL (by decide)
    refine lv_tableIn (off := 284) (tgt := 292) F.1.1 F.1.2.1 dX10_order_8 (by decide) (by decide) rfl (by decide) ?_
    refine lv_aload_n F.1.1 F.1.2.1 dX10_order_292 rfl (lv_at hl 2 rfl) ?_
    refine mr_iconst F 1 dX10_order_293 (by decide +kernel) ?_
    refine cp8 F hM h_rd 1 (by decide) q740 (fun x h => h) rfl (by first | rfl | exact nZ_bI _) (by first | rfl | exact fZ_bI _) (Nat.le_of_ble_eq_true rfl) dX10_order_294 (fun H locs hM => ?_)
    have h_x := nw_put hM (Ne.symm n_rd_x) h_x
    have h_q := nw_put hM (Ne.symm n_rd_q) h_q
    have h_v := nw_put hM (Ne.symm n_rd_v) h_v
    have h_eb := nw_put hM (Ne.symm n_rd_eb) h_eb
    have h_rd := nw_self hM
    refine lv_aload_n F.1.1 F.1.2.1 dX10_order_297 rfl (lv_at hl 2 rfl) ?_
    refine cg8 F hM h_rd 1 (by decide) q740 (fun x h => h) rfl dX10_order_298 ?_
    refine mr_ifneN F (tgt := 324) dX10_order_301 (by decide) (by omega) (fun c301 => ?_) (fun c301 => ?_)
    · exact mr_vret F hQ hM ⟨rfl, by obtain ⟨e1, e2⟩ := rP_no hno; exact rOP.bad e2 (by rw [e1]; exact h_rd) h_eb (fun a y h hr => kp_put hr (hN a y h hr))⟩ (Nat.le_of_ble_eq_true rfl) (Nat.le_of_ble_eq_true rfl) dX10_order_324
    · exact absurd c301 (by omega)
  · rw [hL]
    have hno := rP1_no hb (show 105 < 127 by decide) hL (by decide)
    refine lv_tableIn (off := 284) (tgt := 292) F.1.1 F.1.2.1 dX10_order_8 (by decide) (by decide) rfl (by decide) ?_
    refine lv_aload_n F.1.1 F.1.2.1 dX10_order_292 rfl (lv_at hl 2 rfl) ?_
    refine mr_iconst F 1 dX10_order_293 (by decide +kernel) ?_
    refine cp8 F hM h_rd 1 (by decide) q740 (fun x h => h) rfl (by first | rfl | exact nZ_bI _) (by first | rfl | exact fZ_bI _) (Nat.le_of_ble_eq_true rfl) dX10_order_294 (fun H locs hM => ?_)
    have h_x := nw_put hM (Ne.symm n_rd_x) h_x
    have h_q := nw_put hM (Ne.symm n_rd_q) h_q
    have h_v := nw_put hM (Ne.symm n_rd_v) h_v
    have h_eb := nw_put hM (Ne.symm n_rd_eb) h_eb
    have h_rd := nw_self hM
    refine lv_aload_n F.1.1 F.1.2.1 dX10_order_297 rfl (lv_at hl 2 rfl) ?_
    refine cg8 F hM h_rd 1 (by decide) q740 (fun x h => h) rfl dX10_order_298 ?_
    refine mr_ifneN F (tgt := 324) dX10_order_301 (by decide) (by omega) (fun c301 => ?_) (fun c301 => ?_)
    · exact mr_vret F hQ hM ⟨rfl, by obtain ⟨e1, e2⟩ := rP_no hno; exact rOP.bad e2 (by rw [e1]; exact h_rd) h_eb (fun a y h hr => kp_put hr (hN a y h hr))⟩ (Nat.le_of_ble_eq_true rfl) (Nat.le_of_ble_eq_true rfl) dX10_order_324
    · exact absurd c301 (by omega)
  · rw [hL]
    have hno := rP1_no hb (show 106 < 127 by decide) hL (by decide)
    refine lv_tableIn (off := 284) (tgt := 292) F.1.1 F.1.2.1 dX10_order_8 (by decide) (by decide) rfl (by decide) ?_
    refine lv_aload_n F.1.1 F.1.2.1 dX10_order_292 rfl (lv_at hl 2 rfl) ?_
    refine mr_iconst F 1 dX10_order_293 (by decide +kernel) ?_
    refine cp8 F hM h_rd 1 (by decide) q740 (fun x h => h) rfl (by first | rfl | exact nZ_bI _) (by first | rfl | exact fZ_bI _) (Nat.le_of_ble_eq_true rfl) dX10_order_294 (fun H locs hM => ?_)
    have h_x := nw_put hM (Ne.symm n_rd_x) h_x
    have h_q := nw_put hM (Ne.symm n_rd_q) h_q
    have h_v := nw_put hM (Ne.symm n_rd_v) h_v
    have h_eb := nw_put hM (Ne.symm n_rd_eb) h_eb
    have h_rd := nw_self hM
    refine lv_aload_n F.1.1 F.1.2.1 dX10_order_297 rfl (lv_at hl 2 rfl) ?_
    refine cg8 F hM h_rd 1 (by decide) q740 (fun x h => h) rfl dX10_order_298 ?_
    refine mr_ifneN F (tgt := 324) dX10_order_301 (by decide) (by omega) (fun c301 => ?_) (fun c301 => ?_)
    · exact mr_vret F hQ hM ⟨rfl, by obtain ⟨e1, e2⟩ := rP_no hno; exact rOP.bad e2 (by rw [e1]; exact h_rd) h_eb (fun a y h hr => kp_put hr (hN a y h hr))⟩ (Nat.le_of_ble_eq_true rfl) (Nat.le_of_ble_eq_true rfl) dX10_order_324
    · exact absurd c301 (by omega)
  · rw [hL]
    have hno := rP1_no hb (show 107 < 127 by decide) hL (by decide)
    refine lv_tableIn (off := 284) (tgt := 292) F.1.1 F.1.2.1 dX10_order_8 (by decide) (by decide) rfl (by decide) ?_
    refine lv_aload_n F.1.1 F.1.2.1 dX10_order_292 rfl (lv_at hl 2 rfl) ?_
    refine mr_iconst F 1 dX10_order_293 (by decide +kernel) ?_
    refine cp8 F hM h_rd 1 (by decide) q740 (fun x h => h) rfl (by first | rfl | exact nZ_bI _) (by first | rfl | exact fZ_bI _) (Nat.le_of_ble_eq_true rfl) dX10_order_294 (fun H locs hM => ?_)
    have h_x := nw_put hM (Ne.symm n_rd_x) h_x
    have h_q := nw_put hM (Ne.symm n_rd_q) h_q
    have h_v := nw_put hM (Ne.symm n_rd_v) h_v
    have h_eb := nw_put hM (Ne.symm n_rd_eb) h_eb
    have h_rd := nw_self hM
    refine lv_aload_n F.1.1 F.1.2.1 dX10_order_297 rfl (lv_at hl 2 rfl) ?_
    refine cg8 F hM h_rd 1 (by decide) q740 (fun x h => h) rfl dX10_order_298 ?_
    refine mr_ifneN F (tgt := 324) dX10_order_301 (by decide) (by omega) (fun c301 => ?_) (fun c301 => ?_)
    · exact mr_vret F hQ hM ⟨rfl, by obtain ⟨e1, e2⟩ := rP_no hno; exact rOP.bad e2 (by rw [e1]; exact h_rd) h_eb (fun a y h hr => kp_put hr (hN a y h hr))⟩ (Nat.le_of_ble_eq_true rfl) (Nat.le_of_ble_eq_true rfl) dX10_order_324
    · exact absurd c301 (by omega)
  · rw [hL]
    have hno := rP1_no hb (show 108 < 127 by decide) hL (by decide)
    refine lv_tableIn (off := 284) (tgt := 292) F.1.1 F.1.2.1 dX10_order_8 (by decide) (by decide) rfl (by decide) ?_
    refine lv_aload_n F.1.1 F.1.2.1 dX10_order_292 rfl (lv_at hl 2 rfl) ?_
    refine mr_iconst F 1 dX10_order_293 (by decide +kernel) ?_
    refine cp8 F hM h_rd 1 (by decide) q740 (fun x h => h) rfl (by first | rfl | exact nZ_bI _) (by first | rfl | exact fZ_bI _) (Nat.le_of_ble_eq_true rfl) dX10_order_294 (fun H locs hM => ?_)
    have h_x := nw_put hM (Ne.symm n_rd_x) h_x
    have h_q := nw_put hM (Ne.symm n_rd_q) h_q
    have h_v := nw_put hM (Ne.symm n_rd_v) h_v
    have h_eb := nw_put hM (Ne.symm n_rd_eb) h_eb
    have h_rd := nw_self hM
    refine lv_aload_n F.1.1 F.1.2.1 dX10_order_297 rfl (lv_at hl 2 rfl) ?_
    refine cg8 F hM h_rd 1 (by decide) q740 (fun x h => h) rfl dX10_order_298 ?_
    refine mr_ifneN F (tgt := 324) dX10_order_301 (by decide) (by omega) (fun c301 => ?_) (fun c301 => ?_)
    · exact mr_vret F hQ hM ⟨rfl, by obtain ⟨e1, e2⟩ := rP_no hno; exact rOP.bad e2 (by rw [e1]; exact h_rd) h_eb (fun a y h hr => kp_put hr (hN a y h hr))⟩ (Nat.le_of_ble_eq_true rfl) (Nat.le_of_ble_eq_true rfl) dX10_order_324
    · exact absurd c301 (by omega)
  · rw [hL]
    obtain ⟨hlt, htL⟩ := rSg_L hb (by decide) (by decide) hL
    have hP := rP_m (pl := pl) hb
    refine lv_tableIn (off := 100) (tgt := 108) F.1.1 F.1.2.1 dX10_order_8 (by decide) (by decide) rfl (by decide) ?_
    refine lv_aload_n F.1.1 F.1.2.1 dX10_order_108 rfl (lv_at hl 2 rfl) ?_
    refine lv_dup F.1.1 F.1.2.1 dX10_order_109 rfl ?_
    refine cg8 F hM h_rd 0 (by decide) q738 (fun x h => h) rfl dX10_order_110 ?_
    refine mr_iconst F 1 dX10_order_113 (by decide +kernel) ?_
    refine mr_iaddN F dX10_order_114 ?_
    refine cp8 F hM h_rd 0 (by decide) q738 (fun x h => h) rfl rfl rfl (Nat.le_of_ble_eq_true rfl) dX10_order_115 (fun H locs hM => ?_)
    have h_x := nw_put hM (Ne.symm n_rd_x) h_x
    have h_q := nw_put hM (Ne.symm n_rd_q) h_q
    have h_v := nw_put hM (Ne.symm n_rd_v) h_v
    have h_eb := nw_put hM (Ne.symm n_rd_eb) h_eb
    have h_rd := nw_self hM
    have hN := nw_NB hM hN
    refine lv_aload_n F.1.1 F.1.2.1 dX10_order_118 rfl (lv_at hl 2 rfl) ?_
    refine lv_aload_n F.1.1 F.1.2.1 dX10_order_119 rfl (lv_at hl 2 rfl) ?_
    refine mr_iconst F 3 dX10_order_120 (by decide +kernel) ?_
    refine mc_V (As := [_]) F hM (cs_X10_number l h_rd h_x h_q h_v n_q_v n_rd_x n_rd_q n_rd_v h2 h3 (by omega) hb (by decide) (by decide)) (cwV 1 F.1.2.2.2.2 (lw_V q783 q785 qs3 q106 q786) rfl rfl rfl (by decide +kernel) (mRm_ok (by decide) (by decide))) rfl h_rd rfl rfl rfl hl.1 rfl (Nat.le_of_ble_eq_true rfl) dX10_order_121 ⟨Nat.le_of_ble_eq_true rfl, Nat.le_of_ble_eq_true rfl⟩ (fun ρ121 M121 H locs hP121 hM hz121 => ?_)
    obtain ⟨u0, rfl, hu0, rfl⟩ := hP121
    have hle : (rN2 b nb 3 pl).1 ≤ nb := rNum_le hb (by omega)
    have h_x := nw_put hM (Ne.symm n_rd_x) h_x
    have h_q := nw_put hM (Ne.symm n_rd_q) h_q
    have h_v := nw_put hM (Ne.symm n_rd_v) h_v
    have h_eb := nw_put hM (Ne.symm n_rd_eb) h_eb
    have hN := nw_NB hM hN
    have h_rd := nw_self hM
    refine mc_V (As := [_]) F hM (cs_X10_mounting l h_rd h_x h_q h_v n_q_v n_rd_x n_rd_q n_rd_v h2 h3 (Nat.le_trans hle (by omega)) hb hle hnb) (cwV 1 F.1.2.2.2.2 (lw_V q787 q789 qs4 q106 q790) rfl rfl rfl (by decide +kernel) (mRm_ok (by decide) (by decide))) rfl h_rd rfl rfl rfl hl.1 rfl (Nat.le_of_ble_eq_true rfl) dX10_order_124 ⟨Nat.le_of_ble_eq_true rfl, Nat.le_of_ble_eq_true rfl⟩ (fun ρ124 M124 H locs hP124 hM hz124 => ?_)
    obtain ⟨o, u1, rfl, hq_o, hu1, rfl⟩ := hP124
    have z_o := hN.none h_rd hq_o
    have n_eb_o := kp_ne hq_o h_eb
    have n_rd_o := kp_ne hq_o h_rd
    have hN := tk_N hM hq_o h_rd hN
    have h_eb := tk_a hM hq_o h_rd (Ne.symm n_rd_eb) h_eb
    have h_rd := tk_r hM hq_o h_rd
    have h_o := tk_o hM
    refine lv_astore_n (lv' := [(2, _), (1, _), (0, _)]) F.1.1 F.1.2.1 dX10_order_127 rfl hl (by decide) rfl (fun ls hl => ?_)
    refine lv_goto (tgt := 297) F.1.1 F.1.2.1 dX10_order_128 (by decide) ?_
    refine lv_aload_n F.1.1 F.1.2.1 dX10_order_297 rfl (lv_at hl 2 rfl) ?_
    refine cg8 F hM h_rd 1 (by decide) q740 (fun x h => h) rfl dX10_order_298 ?_
    refine lv_if_ne (tgt := 324) F.1.1 F.1.2.1 dX10_order_301 (by decide) (fun c301 => ?_) (fun c301 => ?_)
    · have hw := rW_1 c301
      exact mr_vret F hQ hM ⟨rfl, by rw [htL, hP]; exact rOP.bad hw (h_rd.trans (congrArg (fun y => some (eO 8 [.int _, .int (rW y), .ref eb, .int _, .ref x])) hw)) h_eb hN⟩ (Nat.le_of_ble_eq_true rfl) (Nat.le_of_ble_eq_true rfl) dX10_order_324
    · have hw := rW_0 c301
      have hN9 := hN
      have hw2 : rW2 b nb 3 pl = true := tNd_w (tNd_w hw)
      obtain rfl := hu0 hw2
      obtain rfl := hu1 hw
      refine lv_aload_n F.1.1 F.1.2.1 dX10_order_304 rfl (lv_at hl 2 rfl) ?_
      refine cg8 F hM h_rd 2 (by decide) q741 (fun x h => h) rfl dX10_order_305 ?_
      refine lv_aload_n F.1.1 F.1.2.1 dX10_order_308 rfl (lv_at hl 2 rfl) ?_
      refine cg8 F hM h_rd 3 (by decide) q742 (fun x h => h) rfl dX10_order_309 ?_
      refine lv_aload_n F.1.1 F.1.2.1 dX10_order_312 rfl (lv_at hl 0 rfl) ?_
      refine mr_aastL F hM 8 h_eb rfl (k := 0) rfl h_o (by omega) (by omega) dX10_order_313 (fun H locs hM => ?_)
      have h_rd := nw_put hM n_rd_eb h_rd
      have h_o := nw_put hM (Ne.symm n_eb_o) h_o
      have h_eb := nw_self hM
      refine lv_aload_n F.1.1 F.1.2.1 dX10_order_314 rfl (lv_at hl 2 rfl) ?_
      refine lv_dup F.1.1 F.1.2.1 dX10_order_315 rfl ?_
      refine cg8 F hM h_rd 3 (by decide) q742 (fun x h => h) rfl dX10_order_316 ?_
      refine mr_iconst F 1 dX10_order_319 (by decide +kernel) ?_
      refine mr_iaddN F dX10_order_320 ?_
      refine cp8 F hM h_rd 3 (by decide) q742 (fun x h => h) rfl rfl rfl (Nat.le_of_ble_eq_true rfl) dX10_order_321 (fun H locs hM => ?_)
      have h_eb := nw_put hM (Ne.symm n_rd_eb) h_eb
      have h_o := nw_put hM (Ne.symm n_rd_o) h_o
      have h_rd := nw_self hM
      exact mr_vret F hQ hM ⟨rfl, by rw [htL, hP]; exact rOP.ok (o := o) hw z_o h_o (h_rd.trans (congrArg (fun y => some (eO 8 [.int _, .int (rW y), .ref eb, .int _, .ref x])) hw)) h_eb (fun a y h hr he => kp_put hr (kp_put he (hN9 a y h hr)))⟩ (Nat.le_of_ble_eq_true rfl) (Nat.le_of_ble_eq_true rfl) dX10_order_324
  · rw [hL]
    have hno := rP1_no hb (show 110 < 127 by decide) hL (by decide)
    refine lv_tableIn (off := 284) (tgt := 292) F.1.1 F.1.2.1 dX10_order_8 (by decide) (by decide) rfl (by decide) ?_
    refine lv_aload_n F.1.1 F.1.2.1 dX10_order_292 rfl (lv_at hl 2 rfl) ?_
    refine mr_iconst F 1 dX10_order_293 (by decide +kernel) ?_
    refine cp8 F hM h_rd 1 (by decide) q740 (fun x h => h) rfl (by first | rfl | exact nZ_bI _) (by first | rfl | exact fZ_bI _) (Nat.le_of_ble_eq_true rfl) dX10_order_294 (fun H locs hM => ?_)
    have h_x := nw_put hM (Ne.symm n_rd_x) h_x
    have h_q := nw_put hM (Ne.symm n_rd_q) h_q
    have h_v := nw_put hM (Ne.symm n_rd_v) h_v
    have h_eb := nw_put hM (Ne.symm n_rd_eb) h_eb
    have h_rd := nw_self hM
    refine lv_aload_n F.1.1 F.1.2.1 dX10_order_297 rfl (lv_at hl 2 rfl) ?_
    refine cg8 F hM h_rd 1 (by decide) q740 (fun x h => h) rfl dX10_order_298 ?_
    refine mr_ifneN F (tgt := 324) dX10_order_301 (by decide) (by omega) (fun c301 => ?_) (fun c301 => ?_)
    · exact mr_vret F hQ hM ⟨rfl, by obtain ⟨e1, e2⟩ := rP_no hno; exact rOP.bad e2 (by rw [e1]; exact h_rd) h_eb (fun a y h hr => kp_put hr (hN a y h hr))⟩ (Nat.le_of_ble_eq_true rfl) (Nat.le_of_ble_eq_true rfl) dX10_order_324
    · exact absurd c301 (by omega)
  · rw [hL]
    have hno := rP1_no hb (show 111 < 127 by decide) hL (by decide)
    refine lv_tableIn (off := 284) (tgt := 292) F.1.1 F.1.2.1 dX10_order_8 (by decide) (by decide) rfl (by decide) ?_
    refine lv_aload_n F.1.1 F.1.2.1 dX10_order_292 rfl (lv_at hl 2 rfl) ?_
    refine mr_iconst F 1 dX10_order_293 (by decide +kernel) ?_
    refine cp8 F hM h_rd 1 (by decide) q740 (fun x h => h) rfl (by first | rfl | exact nZ_bI _) (by first | rfl | exact fZ_bI _) (Nat.le_of_ble_eq_true rfl) dX10_order_294 (fun H locs hM => ?_)
    have h_x := nw_put hM (Ne.symm n_rd_x) h_x
    have h_q := nw_put hM (Ne.symm n_rd_q) h_q
    have h_v := nw_put hM (Ne.symm n_rd_v) h_v
    have h_eb := nw_put hM (Ne.symm n_rd_eb) h_eb
    have h_rd := nw_self hM
    refine lv_aload_n F.1.1 F.1.2.1 dX10_order_297 rfl (lv_at hl 2 rfl) ?_
    refine cg8 F hM h_rd 1 (by decide) q740 (fun x h => h) rfl dX10_order_298 ?_
    refine mr_ifneN F (tgt := 324) dX10_order_301 (by decide) (by omega) (fun c301 => ?_) (fun c301 => ?_)
    · exact mr_vret F hQ hM ⟨rfl, by obtain ⟨e1, e2⟩ := rP_no hno; exact rOP.bad e2 (by rw [e1]; exact h_rd) h_eb (fun a y h hr => kp_put hr (hN a y h hr))⟩ (Nat.le_of_ble_eq_true rfl) (Nat.le_of_ble_eq_true rfl) dX10_order_324
    · exact absurd c301 (by omega)
  · rw [hL]
    have hno := rP1_no hb (show 112 < 127 by decide) hL (by decide)
    refine lv_tableIn (off := 284) (tgt := 292) F.1.1 F.1.2.1 dX10_order_8 (by decide) (by decide) rfl (by decide) ?_
    refine lv_aload_n F.1.1 F.1.2.1 dX10_order_292 rfl (lv_at hl 2 rfl) ?_
    refine mr_iconst F 1 dX10_order_293 (by decide +kernel) ?_
    refine cp8 F hM h_rd 1 (by decide) q740 (fun x h => h) rfl (by first | rfl | exact nZ_bI _) (by first | rfl | exact fZ_bI _) (Nat.le_of_ble_eq_true rfl) dX10_order_294 (fun H locs hM => ?_)
    have h_x := nw_put hM (Ne.symm n_rd_x) h_x
    have h_q := nw_put hM (Ne.symm n_rd_q) h_q
    have h_v := nw_put hM (Ne.symm n_rd_v) h_v
    have h_eb := nw_put hM (Ne.symm n_rd_eb) h_eb
    have h_rd := nw_self hM
    refine lv_aload_n F.1.1 F.1.2.1 dX10_order_297 rfl (lv_at hl 2 rfl) ?_
    refine cg8 F hM h_rd 1 (by decide) q740 (fun x h => h) rfl dX10_order_298 ?_
    refine mr_ifneN F (tgt := 324) dX10_order_301 (by decide) (by omega) (fun c301 => ?_) (fun c301 => ?_)
    · exact mr_vret F hQ hM ⟨rfl, by obtain ⟨e1, e2⟩ := rP_no hno; exact rOP.bad e2 (by rw [e1]; exact h_rd) h_eb (fun a y h hr => kp_put hr (hN a y h hr))⟩ (Nat.le_of_ble_eq_true rfl) (Nat.le_of_ble_eq_true rfl) dX10_order_324
    · exact absurd c301 (by omega)
  · rw [hL]
    have hno := rP1_no hb (show 113 < 127 by decide) hL (by decide)
    refine lv_tableIn (off := 284) (tgt := 292) F.1.1 F.1.2.1 dX10_order_8 (by decide) (by decide) rfl (by decide) ?_
    refine lv_aload_n F.1.1 F.1.2.1 dX10_order_292 rfl (lv_at hl 2 rfl) ?_
    refine mr_iconst F 1 dX10_order_293 (by decide +kernel) ?_
    refine cp8 F hM h_rd 1 (by decide) q740 (fun x h => h) rfl (by first | rfl | exact nZ_bI _) (by first | rfl | exact fZ_bI _) (Nat.le_of_ble_eq_true rfl) dX10_order_294 (fun H locs hM => ?_)
    have h_x := nw_put hM (Ne.symm n_rd_x) h_x
    have h_q := nw_put hM (Ne.symm n_rd_q) h_q
    have h_v := nw_put hM (Ne.symm n_rd_v) h_v
    have h_eb := nw_put hM (Ne.symm n_rd_eb) h_eb
    have h_rd := nw_self hM
    refine lv_aload_n F.1.1 F.1.2.1 dX10_order_297 rfl (lv_at hl 2 rfl) ?_
    refine cg8 F hM h_rd 1 (by decide) q740 (fun x h => h) rfl dX10_order_298 ?_
    refine mr_ifneN F (tgt := 324) dX10_order_301 (by decide) (by omega) (fun c301 => ?_) (fun c301 => ?_)
    · exact mr_vret F hQ hM ⟨rfl, by obtain ⟨e1, e2⟩ := rP_no hno; exact rOP.bad e2 (by rw [e1]; exact h_rd) h_eb (fun a y h hr => kp_put hr (hN a y h hr))⟩ (Nat.le_of_ble_eq_true rfl) (Nat.le_of_ble_eq_true rfl) dX10_order_324
    · exact absurd c301 (by omega)
  · rw [hL]
    obtain ⟨hlt, htL⟩ := rSg_L hb (by decide) (by decide) hL
    have hP := rP_r (pl := pl) hb
    refine lv_tableIn (off := 192) (tgt := 200) F.1.1 F.1.2.1 dX10_order_8 (by decide) (by decide) rfl (by decide) ?_
    refine lv_aload_n F.1.1 F.1.2.1 dX10_order_200 rfl (lv_at hl 2 rfl) ?_
    refine lv_dup F.1.1 F.1.2.1 dX10_order_201 rfl ?_
    refine cg8 F hM h_rd 0 (by decide) q738 (fun x h => h) rfl dX10_order_202 ?_
    refine mr_iconst F 1 dX10_order_205 (by decide +kernel) ?_
    refine mr_iaddN F dX10_order_206 ?_
    refine cp8 F hM h_rd 0 (by decide) q738 (fun x h => h) rfl rfl rfl (Nat.le_of_ble_eq_true rfl) dX10_order_207 (fun H locs hM => ?_)
    have h_x := nw_put hM (Ne.symm n_rd_x) h_x
    have h_q := nw_put hM (Ne.symm n_rd_q) h_q
    have h_v := nw_put hM (Ne.symm n_rd_v) h_v
    have h_eb := nw_put hM (Ne.symm n_rd_eb) h_eb
    have h_rd := nw_self hM
    have hN := nw_NB hM hN
    refine lv_aload_n F.1.1 F.1.2.1 dX10_order_210 rfl (lv_at hl 2 rfl) ?_
    refine lv_aload_n F.1.1 F.1.2.1 dX10_order_211 rfl (lv_at hl 2 rfl) ?_
    refine mr_iconst F 3 dX10_order_212 (by decide +kernel) ?_
    refine mc_V (As := [_]) F hM (cs_X10_number l h_rd h_x h_q h_v n_q_v n_rd_x n_rd_q n_rd_v h2 h3 (by omega) hb (by decide) (by decide)) (cwV 1 F.1.2.2.2.2 (lw_V q783 q785 qs3 q106 q786) rfl rfl rfl (by decide +kernel) (mRm_ok (by decide) (by decide))) rfl h_rd rfl rfl rfl hl.1 rfl (Nat.le_of_ble_eq_true rfl) dX10_order_213 ⟨Nat.le_of_ble_eq_true rfl, Nat.le_of_ble_eq_true rfl⟩ (fun ρ213 M213 H locs hP213 hM hz213 => ?_)
    obtain ⟨u0, rfl, hu0, rfl⟩ := hP213
    have hle : (rN2 b nb 3 pl).1 ≤ nb := rNum_le hb (by omega)
    have h_x := nw_put hM (Ne.symm n_rd_x) h_x
    have h_q := nw_put hM (Ne.symm n_rd_q) h_q
    have h_v := nw_put hM (Ne.symm n_rd_v) h_v
    have h_eb := nw_put hM (Ne.symm n_rd_eb) h_eb
    have hN := nw_NB hM hN
    have h_rd := nw_self hM
    refine mc_V (As := [_]) F hM (cs_X10_reading l h_rd h_x h_q h_v n_q_v n_rd_x n_rd_q n_rd_v h2 h3 (Nat.le_trans hle (by omega)) hb hle hnb) (cwV 1 F.1.2.2.2.2 (lw_V q935 q937 qs14 q106 q938) rfl rfl rfl (by decide +kernel) (mRm_ok (by decide) (by decide))) rfl h_rd rfl rfl rfl hl.1 rfl (Nat.le_of_ble_eq_true rfl) dX10_order_216 ⟨Nat.le_of_ble_eq_true rfl, Nat.le_of_ble_eq_true rfl⟩ (fun ρ216 M216 H locs hP216 hM hz216 => ?_)
    obtain ⟨o, u1, rfl, hq_o, hu1, rfl⟩ := hP216
    have z_o := hN.none h_rd hq_o
    have n_eb_o := kp_ne hq_o h_eb
    have n_rd_o := kp_ne hq_o h_rd
    have hN := tk_N hM hq_o h_rd hN
    have h_eb := tk_a hM hq_o h_rd (Ne.symm n_rd_eb) h_eb
    have h_rd := tk_r hM hq_o h_rd
    have h_o := tk_o hM
    refine lv_astore_n (lv' := [(2, _), (1, _), (0, _)]) F.1.1 F.1.2.1 dX10_order_219 rfl hl (by decide) rfl (fun ls hl => ?_)
    refine lv_goto (tgt := 297) F.1.1 F.1.2.1 dX10_order_220 (by decide) ?_
    refine lv_aload_n F.1.1 F.1.2.1 dX10_order_297 rfl (lv_at hl 2 rfl) ?_
    refine cg8 F hM h_rd 1 (by decide) q740 (fun x h => h) rfl dX10_order_298 ?_
    refine lv_if_ne (tgt := 324) F.1.1 F.1.2.1 dX10_order_301 (by decide) (fun c301 => ?_) (fun c301 => ?_)
    · have hw := rW_1 c301
      exact mr_vret F hQ hM ⟨rfl, by rw [htL, hP]; exact rOP.bad hw (h_rd.trans (congrArg (fun y => some (eO 8 [.int _, .int (rW y), .ref eb, .int _, .ref x])) hw)) h_eb hN⟩ (Nat.le_of_ble_eq_true rfl) (Nat.le_of_ble_eq_true rfl) dX10_order_324
    · have hw := rW_0 c301
      have hN9 := hN
      have hw2 : rW2 b nb 3 pl = true := tNd_w (tNd_w hw)
      obtain rfl := hu0 hw2
      obtain rfl := hu1 hw
      refine lv_aload_n F.1.1 F.1.2.1 dX10_order_304 rfl (lv_at hl 2 rfl) ?_
      refine cg8 F hM h_rd 2 (by decide) q741 (fun x h => h) rfl dX10_order_305 ?_
      refine lv_aload_n F.1.1 F.1.2.1 dX10_order_308 rfl (lv_at hl 2 rfl) ?_
      refine cg8 F hM h_rd 3 (by decide) q742 (fun x h => h) rfl dX10_order_309 ?_
      refine lv_aload_n F.1.1 F.1.2.1 dX10_order_312 rfl (lv_at hl 0 rfl) ?_
      refine mr_aastL F hM 8 h_eb rfl (k := 7) rfl h_o (by omega) (by omega) dX10_order_313 (fun H locs hM => ?_)
      have h_rd := nw_put hM n_rd_eb h_rd
      have h_o := nw_put hM (Ne.symm n_eb_o) h_o
      have h_eb := nw_self hM
      refine lv_aload_n F.1.1 F.1.2.1 dX10_order_314 rfl (lv_at hl 2 rfl) ?_
      refine lv_dup F.1.1 F.1.2.1 dX10_order_315 rfl ?_
      refine cg8 F hM h_rd 3 (by decide) q742 (fun x h => h) rfl dX10_order_316 ?_
      refine mr_iconst F 1 dX10_order_319 (by decide +kernel) ?_
      refine mr_iaddN F dX10_order_320 ?_
      refine cp8 F hM h_rd 3 (by decide) q742 (fun x h => h) rfl rfl rfl (Nat.le_of_ble_eq_true rfl) dX10_order_321 (fun H locs hM => ?_)
      have h_eb := nw_put hM (Ne.symm n_rd_eb) h_eb
      have h_o := nw_put hM (Ne.symm n_rd_o) h_o
      have h_rd := nw_self hM
      exact mr_vret F hQ hM ⟨rfl, by rw [htL, hP]; exact rOP.ok (o := o) hw z_o h_o (h_rd.trans (congrArg (fun y => some (eO 8 [.int _, .int (rW y), .ref eb, .int _, .ref x])) hw)) h_eb (fun a y h hr he => kp_put hr (kp_put he (hN9 a y h hr)))⟩ (Nat.le_of_ble_eq_true rfl) (Nat.le_of_ble_eq_true rfl) dX10_order_324
  · rw [hL]
    obtain ⟨hlt, htL⟩ := rSg_L hb (by decide) (by decide) hL
    have hP := rP_s (pl := pl) hb
    refine lv_tableIn (off := 146) (tgt := 154) F.1.1 F.1.2.1 dX10_order_8 (by decide) (by decide) rfl (by decide) ?_
    refine lv_aload_n F.1.1 F.1.2.1 dX10_order_154 rfl (lv_at hl 2 rfl) ?_
    refine lv_dup F.1.1 F.1.2.1 dX10_order_155 rfl ?_
    refine cg8 F hM h_rd 0 (by decide) q738 (fun x h => h) rfl dX10_order_156 ?_
    refine mr_iconst F 1 dX10_order_159 (by decide +kernel) ?_
    refine mr_iaddN F dX10_order_160 ?_
    refine cp8 F hM h_rd 0 (by decide) q738 (fun x h => h) rfl rfl rfl (Nat.le_of_ble_eq_true rfl) dX10_order_161 (fun H locs hM => ?_)
    have h_x := nw_put hM (Ne.symm n_rd_x) h_x
    have h_q := nw_put hM (Ne.symm n_rd_q) h_q
    have h_v := nw_put hM (Ne.symm n_rd_v) h_v
    have h_eb := nw_put hM (Ne.symm n_rd_eb) h_eb
    have h_rd := nw_self hM
    have hN := nw_NB hM hN
    refine lv_aload_n F.1.1 F.1.2.1 dX10_order_164 rfl (lv_at hl 2 rfl) ?_
    refine lv_aload_n F.1.1 F.1.2.1 dX10_order_165 rfl (lv_at hl 2 rfl) ?_
    refine mr_iconst F 3 dX10_order_166 (by decide +kernel) ?_
    refine mc_V (As := [_]) F hM (cs_X10_number l h_rd h_x h_q h_v n_q_v n_rd_x n_rd_q n_rd_v h2 h3 (by omega) hb (by decide) (by decide)) (cwV 1 F.1.2.2.2.2 (lw_V q783 q785 qs3 q106 q786) rfl rfl rfl (by decide +kernel) (mRm_ok (by decide) (by decide))) rfl h_rd rfl rfl rfl hl.1 rfl (Nat.le_of_ble_eq_true rfl) dX10_order_167 ⟨Nat.le_of_ble_eq_true rfl, Nat.le_of_ble_eq_true rfl⟩ (fun ρ167 M167 H locs hP167 hM hz167 => ?_)
    obtain ⟨u0, rfl, hu0, rfl⟩ := hP167
    have hle : (rN2 b nb 3 pl).1 ≤ nb := rNum_le hb (by omega)
    have h_x := nw_put hM (Ne.symm n_rd_x) h_x
    have h_q := nw_put hM (Ne.symm n_rd_q) h_q
    have h_v := nw_put hM (Ne.symm n_rd_v) h_v
    have h_eb := nw_put hM (Ne.symm n_rd_eb) h_eb
    have hN := nw_NB hM hN
    have h_rd := nw_self hM
    refine mc_V (As := [_]) F hM (cs_X10_seeking l h_rd h_x h_q h_v n_q_v n_rd_x n_rd_q n_rd_v h2 h3 (Nat.le_trans hle (by omega)) hb hle hnb) (cwV 1 F.1.2.2.2.2 (lw_V q861 q863 qs11 q106 q864) rfl rfl rfl (by decide +kernel) (mRm_ok (by decide) (by decide))) rfl h_rd rfl rfl rfl hl.1 rfl (Nat.le_of_ble_eq_true rfl) dX10_order_170 ⟨Nat.le_of_ble_eq_true rfl, Nat.le_of_ble_eq_true rfl⟩ (fun ρ170 M170 H locs hP170 hM hz170 => ?_)
    obtain ⟨o, u1, rfl, hq_o, hu1, rfl⟩ := hP170
    have z_o := hN.none h_rd hq_o
    have n_eb_o := kp_ne hq_o h_eb
    have n_rd_o := kp_ne hq_o h_rd
    have hN := tk_N hM hq_o h_rd hN
    have h_eb := tk_a hM hq_o h_rd (Ne.symm n_rd_eb) h_eb
    have h_rd := tk_r hM hq_o h_rd
    have h_o := tk_o hM
    refine lv_astore_n (lv' := [(2, _), (1, _), (0, _)]) F.1.1 F.1.2.1 dX10_order_173 rfl hl (by decide) rfl (fun ls hl => ?_)
    refine lv_goto (tgt := 297) F.1.1 F.1.2.1 dX10_order_174 (by decide) ?_
    refine lv_aload_n F.1.1 F.1.2.1 dX10_order_297 rfl (lv_at hl 2 rfl) ?_
    refine cg8 F hM h_rd 1 (by decide) q740 (fun x h => h) rfl dX10_order_298 ?_
    refine lv_if_ne (tgt := 324) F.1.1 F.1.2.1 dX10_order_301 (by decide) (fun c301 => ?_) (fun c301 => ?_)
    · have hw := rW_1 c301
      exact mr_vret F hQ hM ⟨rfl, by rw [htL, hP]; exact rOP.bad hw (h_rd.trans (congrArg (fun y => some (eO 8 [.int _, .int (rW y), .ref eb, .int _, .ref x])) hw)) h_eb hN⟩ (Nat.le_of_ble_eq_true rfl) (Nat.le_of_ble_eq_true rfl) dX10_order_324
    · have hw := rW_0 c301
      have hN9 := hN
      have hw2 : rW2 b nb 3 pl = true := tNd_w (tNd_w hw)
      obtain rfl := hu0 hw2
      obtain rfl := hu1 hw
      refine lv_aload_n F.1.1 F.1.2.1 dX10_order_304 rfl (lv_at hl 2 rfl) ?_
      refine cg8 F hM h_rd 2 (by decide) q741 (fun x h => h) rfl dX10_order_305 ?_
      refine lv_aload_n F.1.1 F.1.2.1 dX10_order_308 rfl (lv_at hl 2 rfl) ?_
      refine cg8 F hM h_rd 3 (by decide) q742 (fun x h => h) rfl dX10_order_309 ?_
      refine lv_aload_n F.1.1 F.1.2.1 dX10_order_312 rfl (lv_at hl 0 rfl) ?_
      refine mr_aastL F hM 8 h_eb rfl (k := 5) rfl h_o (by omega) (by omega) dX10_order_313 (fun H locs hM => ?_)
      have h_rd := nw_put hM n_rd_eb h_rd
      have h_o := nw_put hM (Ne.symm n_eb_o) h_o
      have h_eb := nw_self hM
      refine lv_aload_n F.1.1 F.1.2.1 dX10_order_314 rfl (lv_at hl 2 rfl) ?_
      refine lv_dup F.1.1 F.1.2.1 dX10_order_315 rfl ?_
      refine cg8 F hM h_rd 3 (by decide) q742 (fun x h => h) rfl dX10_order_316 ?_
      refine mr_iconst F 1 dX10_order_319 (by decide +kernel) ?_
      refine mr_iaddN F dX10_order_320 ?_
      refine cp8 F hM h_rd 3 (by decide) q742 (fun x h => h) rfl rfl rfl (Nat.le_of_ble_eq_true rfl) dX10_order_321 (fun H locs hM => ?_)
      have h_eb := nw_put hM (Ne.symm n_rd_eb) h_eb
      have h_o := nw_put hM (Ne.symm n_rd_o) h_o
      have h_rd := nw_self hM
      exact mr_vret F hQ hM ⟨rfl, by rw [htL, hP]; exact rOP.ok (o := o) hw z_o h_o (h_rd.trans (congrArg (fun y => some (eO 8 [.int _, .int (rW y), .ref eb, .int _, .ref x])) hw)) h_eb (fun a y h hr he => kp_put hr (kp_put he (hN9 a y h hr)))⟩ (Nat.le_of_ble_eq_true rfl) (Nat.le_of_ble_eq_true rfl) dX10_order_324
  · rw [hL]
    have hno := rP1_no hb (show 116 < 127 by decide) hL (by decide)
    refine lv_tableIn (off := 284) (tgt := 292) F.1.1 F.1.2.1 dX10_order_8 (by decide) (by decide) rfl (by decide) ?_
    refine lv_aload_n F.1.1 F.1.2.1 dX10_order_292 rfl (lv_at hl 2 rfl) ?_
    refine mr_iconst F 1 dX10_order_293 (by decide +kernel) ?_
    refine cp8 F hM h_rd 1 (by decide) q740 (fun x h => h) rfl (by first | rfl | exact nZ_bI _) (by first | rfl | exact fZ_bI _) (Nat.le_of_ble_eq_true rfl) dX10_order_294 (fun H locs hM => ?_)
    have h_x := nw_put hM (Ne.symm n_rd_x) h_x
    have h_q := nw_put hM (Ne.symm n_rd_q) h_q
    have h_v := nw_put hM (Ne.symm n_rd_v) h_v
    have h_eb := nw_put hM (Ne.symm n_rd_eb) h_eb
    have h_rd := nw_self hM
    refine lv_aload_n F.1.1 F.1.2.1 dX10_order_297 rfl (lv_at hl 2 rfl) ?_
    refine cg8 F hM h_rd 1 (by decide) q740 (fun x h => h) rfl dX10_order_298 ?_
    refine mr_ifneN F (tgt := 324) dX10_order_301 (by decide) (by omega) (fun c301 => ?_) (fun c301 => ?_)
    · exact mr_vret F hQ hM ⟨rfl, by obtain ⟨e1, e2⟩ := rP_no hno; exact rOP.bad e2 (by rw [e1]; exact h_rd) h_eb (fun a y h hr => kp_put hr (hN a y h hr))⟩ (Nat.le_of_ble_eq_true rfl) (Nat.le_of_ble_eq_true rfl) dX10_order_324
    · exact absurd c301 (by omega)
  · rw [hL]
    obtain ⟨hlt, htL⟩ := rSg_L hb (by decide) (by decide) hL
    have hP := rP_u (pl := pl) hb
    refine lv_tableIn (off := 123) (tgt := 131) F.1.1 F.1.2.1 dX10_order_8 (by decide) (by decide) rfl (by decide) ?_
    refine lv_aload_n F.1.1 F.1.2.1 dX10_order_131 rfl (lv_at hl 2 rfl) ?_
    refine lv_dup F.1.1 F.1.2.1 dX10_order_132 rfl ?_
    refine cg8 F hM h_rd 0 (by decide) q738 (fun x h => h) rfl dX10_order_133 ?_
    refine mr_iconst F 1 dX10_order_136 (by decide +kernel) ?_
    refine mr_iaddN F dX10_order_137 ?_
    refine cp8 F hM h_rd 0 (by decide) q738 (fun x h => h) rfl rfl rfl (Nat.le_of_ble_eq_true rfl) dX10_order_138 (fun H locs hM => ?_)
    have h_x := nw_put hM (Ne.symm n_rd_x) h_x
    have h_q := nw_put hM (Ne.symm n_rd_q) h_q
    have h_v := nw_put hM (Ne.symm n_rd_v) h_v
    have h_eb := nw_put hM (Ne.symm n_rd_eb) h_eb
    have h_rd := nw_self hM
    have hN := nw_NB hM hN
    refine lv_aload_n F.1.1 F.1.2.1 dX10_order_141 rfl (lv_at hl 2 rfl) ?_
    refine lv_aload_n F.1.1 F.1.2.1 dX10_order_142 rfl (lv_at hl 2 rfl) ?_
    refine mr_iconst F 3 dX10_order_143 (by decide +kernel) ?_
    refine mc_V (As := [_]) F hM (cs_X10_number l h_rd h_x h_q h_v n_q_v n_rd_x n_rd_q n_rd_v h2 h3 (by omega) hb (by decide) (by decide)) (cwV 1 F.1.2.2.2.2 (lw_V q783 q785 qs3 q106 q786) rfl rfl rfl (by decide +kernel) (mRm_ok (by decide) (by decide))) rfl h_rd rfl rfl rfl hl.1 rfl (Nat.le_of_ble_eq_true rfl) dX10_order_144 ⟨Nat.le_of_ble_eq_true rfl, Nat.le_of_ble_eq_true rfl⟩ (fun ρ144 M144 H locs hP144 hM hz144 => ?_)
    obtain ⟨u0, rfl, hu0, rfl⟩ := hP144
    have hle : (rN2 b nb 3 pl).1 ≤ nb := rNum_le hb (by omega)
    have h_x := nw_put hM (Ne.symm n_rd_x) h_x
    have h_q := nw_put hM (Ne.symm n_rd_q) h_q
    have h_v := nw_put hM (Ne.symm n_rd_v) h_v
    have h_eb := nw_put hM (Ne.symm n_rd_eb) h_eb
    have hN := nw_NB hM hN
    have h_rd := nw_self hM
    refine mc_V (As := [_]) F hM (cs_X10_unmounting l ) (cwV 1 F.1.2.2.2.2 (lw_V q851 q853 qs10 q106 q854) rfl rfl rfl (by decide +kernel) (mRm_ok (by decide) (by decide))) rfl h_rd rfl rfl rfl hl.1 rfl (Nat.le_of_ble_eq_true rfl) dX10_order_147 ⟨Nat.le_of_ble_eq_true rfl, Nat.le_of_ble_eq_true rfl⟩ (fun ρ147 M147 H locs hP147 hM hz147 => ?_)
    obtain ⟨o, rfl, hq_o, rfl⟩ := hP147
    have z_o := hN.none h_rd hq_o
    have n_eb_o := kp_ne hq_o h_eb
    have n_rd_o := kp_ne hq_o h_rd
    have hN := nw_N hM hq_o hN
    have h_eb := nw_new hM hq_o h_eb
    have h_rd := nw_new hM hq_o h_rd
    have h_o := nw_self hM
    refine lv_astore_n (lv' := [(2, _), (1, _), (0, _)]) F.1.1 F.1.2.1 dX10_order_150 rfl hl (by decide) rfl (fun ls hl => ?_)
    refine lv_goto (tgt := 297) F.1.1 F.1.2.1 dX10_order_151 (by decide) ?_
    refine lv_aload_n F.1.1 F.1.2.1 dX10_order_297 rfl (lv_at hl 2 rfl) ?_
    refine cg8 F hM h_rd 1 (by decide) q740 (fun x h => h) rfl dX10_order_298 ?_
    refine lv_if_ne (tgt := 324) F.1.1 F.1.2.1 dX10_order_301 (by decide) (fun c301 => ?_) (fun c301 => ?_)
    · have hw := rW_1 c301
      exact mr_vret F hQ hM ⟨rfl, by rw [htL, hP]; exact rOP.bad hw (h_rd.trans (congrArg (fun y => some (eO 8 [.int _, .int (rW y), .ref eb, .int _, .ref x])) hw)) h_eb hN⟩ (Nat.le_of_ble_eq_true rfl) (Nat.le_of_ble_eq_true rfl) dX10_order_324
    · have hw := rW_0 c301
      have hN9 := hN
      obtain rfl := hu0 hw
      refine lv_aload_n F.1.1 F.1.2.1 dX10_order_304 rfl (lv_at hl 2 rfl) ?_
      refine cg8 F hM h_rd 2 (by decide) q741 (fun x h => h) rfl dX10_order_305 ?_
      refine lv_aload_n F.1.1 F.1.2.1 dX10_order_308 rfl (lv_at hl 2 rfl) ?_
      refine cg8 F hM h_rd 3 (by decide) q742 (fun x h => h) rfl dX10_order_309 ?_
      refine lv_aload_n F.1.1 F.1.2.1 dX10_order_312 rfl (lv_at hl 0 rfl) ?_
      refine mr_aastL F hM 8 h_eb rfl (k := 4) rfl h_o (by omega) (by omega) dX10_order_313 (fun H locs hM => ?_)
      have h_rd := nw_put hM n_rd_eb h_rd
      have h_o := nw_put hM (Ne.symm n_eb_o) h_o
      have h_eb := nw_self hM
      refine lv_aload_n F.1.1 F.1.2.1 dX10_order_314 rfl (lv_at hl 2 rfl) ?_
      refine lv_dup F.1.1 F.1.2.1 dX10_order_315 rfl ?_
      refine cg8 F hM h_rd 3 (by decide) q742 (fun x h => h) rfl dX10_order_316 ?_
      refine mr_iconst F 1 dX10_order_319 (by decide +kernel) ?_
      refine mr_iaddN F dX10_order_320 ?_
      refine cp8 F hM h_rd 3 (by decide) q742 (fun x h => h) rfl rfl rfl (Nat.le_of_ble_eq_true rfl) dX10_order_321 (fun H locs hM => ?_)
      have h_eb := nw_put hM (Ne.symm n_rd_eb) h_eb
      have h_o := nw_put hM (Ne.symm n_rd_o) h_o
      have h_rd := nw_self hM
      exact mr_vret F hQ hM ⟨rfl, by rw [htL, hP]; exact rOP.ok (o := o) hw z_o h_o (h_rd.trans (congrArg (fun y => some (eO 8 [.int _, .int (rW y), .ref eb, .int _, .ref x])) hw)) h_eb (fun a y h hr he => kp_put hr (kp_put he (hN9 a y h hr)))⟩ (Nat.le_of_ble_eq_true rfl) (Nat.le_of_ble_eq_true rfl) dX10_order_324
  · rw [hL]
    obtain ⟨hlt, htL⟩ := rSg_L hb (by decide) (by decide) hL
    have hP := rP_v (pl := pl) hb
    refine lv_tableIn (off := 215) (tgt := 223) F.1.1 F.1.2.1 dX10_order_8 (by decide) (by decide) rfl (by decide) ?_
    refine lv_aload_n F.1.1 F.1.2.1 dX10_order_223 rfl (lv_at hl 2 rfl) ?_
    refine lv_dup F.1.1 F.1.2.1 dX10_order_224 rfl ?_
    refine cg8 F hM h_rd 0 (by decide) q738 (fun x h => h) rfl dX10_order_225 ?_
    refine mr_iconst F 1 dX10_order_228 (by decide +kernel) ?_
    refine mr_iaddN F dX10_order_229 ?_
    refine cp8 F hM h_rd 0 (by decide) q738 (fun x h => h) rfl rfl rfl (Nat.le_of_ble_eq_true rfl) dX10_order_230 (fun H locs hM => ?_)
    have h_x := nw_put hM (Ne.symm n_rd_x) h_x
    have h_q := nw_put hM (Ne.symm n_rd_q) h_q
    have h_v := nw_put hM (Ne.symm n_rd_v) h_v
    have h_eb := nw_put hM (Ne.symm n_rd_eb) h_eb
    have h_rd := nw_self hM
    have hN := nw_NB hM hN
    refine lv_aload_n F.1.1 F.1.2.1 dX10_order_233 rfl (lv_at hl 2 rfl) ?_
    refine lv_aload_n F.1.1 F.1.2.1 dX10_order_234 rfl (lv_at hl 2 rfl) ?_
    refine mr_iconst F 3 dX10_order_235 (by decide +kernel) ?_
    refine mc_V (As := [_]) F hM (cs_X10_number l h_rd h_x h_q h_v n_q_v n_rd_x n_rd_q n_rd_v h2 h3 (by omega) hb (by decide) (by decide)) (cwV 1 F.1.2.2.2.2 (lw_V q783 q785 qs3 q106 q786) rfl rfl rfl (by decide +kernel) (mRm_ok (by decide) (by decide))) rfl h_rd rfl rfl rfl hl.1 rfl (Nat.le_of_ble_eq_true rfl) dX10_order_236 ⟨Nat.le_of_ble_eq_true rfl, Nat.le_of_ble_eq_true rfl⟩ (fun ρ236 M236 H locs hP236 hM hz236 => ?_)
    obtain ⟨u0, rfl, hu0, rfl⟩ := hP236
    have hle : (rN2 b nb 3 pl).1 ≤ nb := rNum_le hb (by omega)
    have h_x := nw_put hM (Ne.symm n_rd_x) h_x
    have h_q := nw_put hM (Ne.symm n_rd_q) h_q
    have h_v := nw_put hM (Ne.symm n_rd_v) h_v
    have h_eb := nw_put hM (Ne.symm n_rd_eb) h_eb
    have hN := nw_NB hM hN
    have h_rd := nw_self hM
    refine mc_V (As := [_]) F hM (cs_X10_turning l h_rd h_x h_q h_v n_q_v n_rd_x n_rd_q n_rd_v h2 h3 (Nat.le_trans hle (by omega)) hb hle hnb) (cwV 1 F.1.2.2.2.2 (lw_V q974 q976 qs16 q106 q977) rfl rfl rfl (by decide +kernel) (mRm_ok (by decide) (by decide))) rfl h_rd rfl rfl rfl hl.1 rfl (Nat.le_of_ble_eq_true rfl) dX10_order_239 ⟨Nat.le_of_ble_eq_true rfl, Nat.le_of_ble_eq_true rfl⟩ (fun ρ239 M239 H locs hP239 hM hz239 => ?_)
    obtain ⟨o, rfl, hq_o, rfl⟩ := hP239
    have z_o := hN.none h_rd hq_o
    have n_eb_o := kp_ne hq_o h_eb
    have n_rd_o := kp_ne hq_o h_rd
    have hN := tk_N hM hq_o h_rd hN
    have h_eb := tk_a hM hq_o h_rd (Ne.symm n_rd_eb) h_eb
    have h_rd := tk_r hM hq_o h_rd
    have h_o := tk_o hM
    refine lv_astore_n (lv' := [(2, _), (1, _), (0, _)]) F.1.1 F.1.2.1 dX10_order_242 rfl hl (by decide) rfl (fun ls hl => ?_)
    refine lv_goto (tgt := 297) F.1.1 F.1.2.1 dX10_order_243 (by decide) ?_
    refine lv_aload_n F.1.1 F.1.2.1 dX10_order_297 rfl (lv_at hl 2 rfl) ?_
    refine cg8 F hM h_rd 1 (by decide) q740 (fun x h => h) rfl dX10_order_298 ?_
    refine lv_if_ne (tgt := 324) F.1.1 F.1.2.1 dX10_order_301 (by decide) (fun c301 => ?_) (fun c301 => ?_)
    · have hw := rW_1 c301
      exact mr_vret F hQ hM ⟨rfl, by rw [htL, hP]; exact rOP.bad hw (h_rd.trans (congrArg (fun y => some (eO 8 [.int _, .int (rW y), .ref eb, .int _, .ref x])) hw)) h_eb hN⟩ (Nat.le_of_ble_eq_true rfl) (Nat.le_of_ble_eq_true rfl) dX10_order_324
    · have hw := rW_0 c301
      have hN9 := hN
      have hw2 : rW2 b nb 3 pl = true := tNd_w hw
      obtain rfl := hu0 hw2
      refine lv_aload_n F.1.1 F.1.2.1 dX10_order_304 rfl (lv_at hl 2 rfl) ?_
      refine cg8 F hM h_rd 2 (by decide) q741 (fun x h => h) rfl dX10_order_305 ?_
      refine lv_aload_n F.1.1 F.1.2.1 dX10_order_308 rfl (lv_at hl 2 rfl) ?_
      refine cg8 F hM h_rd 3 (by decide) q742 (fun x h => h) rfl dX10_order_309 ?_
      refine lv_aload_n F.1.1 F.1.2.1 dX10_order_312 rfl (lv_at hl 0 rfl) ?_
      refine mr_aastL F hM 8 h_eb rfl (k := 8) rfl h_o (by omega) (by omega) dX10_order_313 (fun H locs hM => ?_)
      have h_rd := nw_put hM n_rd_eb h_rd
      have h_o := nw_put hM (Ne.symm n_eb_o) h_o
      have h_eb := nw_self hM
      refine lv_aload_n F.1.1 F.1.2.1 dX10_order_314 rfl (lv_at hl 2 rfl) ?_
      refine lv_dup F.1.1 F.1.2.1 dX10_order_315 rfl ?_
      refine cg8 F hM h_rd 3 (by decide) q742 (fun x h => h) rfl dX10_order_316 ?_
      refine mr_iconst F 1 dX10_order_319 (by decide +kernel) ?_
      refine mr_iaddN F dX10_order_320 ?_
      refine cp8 F hM h_rd 3 (by decide) q742 (fun x h => h) rfl rfl rfl (Nat.le_of_ble_eq_true rfl) dX10_order_321 (fun H locs hM => ?_)
      have h_eb := nw_put hM (Ne.symm n_rd_eb) h_eb
      have h_o := nw_put hM (Ne.symm n_rd_o) h_o
      have h_rd := nw_self hM
      exact mr_vret F hQ hM ⟨rfl, by rw [htL, hP]; exact rOP.ok (o := o) hw z_o h_o (h_rd.trans (congrArg (fun y => some (eO 8 [.int _, .int (rW y), .ref eb, .int _, .ref x])) hw)) h_eb (fun a y h hr he => kp_put hr (kp_put he (hN9 a y h hr)))⟩ (Nat.le_of_ble_eq_true rfl) (Nat.le_of_ble_eq_true rfl) dX10_order_324
  · rw [hL]
    obtain ⟨hlt, htL⟩ := rSg_L hb (by decide) (by decide) hL
    have hP := rP_w (pl := pl) hb
    refine lv_tableIn (off := 169) (tgt := 177) F.1.1 F.1.2.1 dX10_order_8 (by decide) (by decide) rfl (by decide) ?_
    refine lv_aload_n F.1.1 F.1.2.1 dX10_order_177 rfl (lv_at hl 2 rfl) ?_
    refine lv_dup F.1.1 F.1.2.1 dX10_order_178 rfl ?_
    refine cg8 F hM h_rd 0 (by decide) q738 (fun x h => h) rfl dX10_order_179 ?_
    refine mr_iconst F 1 dX10_order_182 (by decide +kernel) ?_
    refine mr_iaddN F dX10_order_183 ?_
    refine cp8 F hM h_rd 0 (by decide) q738 (fun x h => h) rfl rfl rfl (Nat.le_of_ble_eq_true rfl) dX10_order_184 (fun H locs hM => ?_)
    have h_x := nw_put hM (Ne.symm n_rd_x) h_x
    have h_q := nw_put hM (Ne.symm n_rd_q) h_q
    have h_v := nw_put hM (Ne.symm n_rd_v) h_v
    have h_eb := nw_put hM (Ne.symm n_rd_eb) h_eb
    have h_rd := nw_self hM
    have hN := nw_NB hM hN
    refine lv_aload_n F.1.1 F.1.2.1 dX10_order_187 rfl (lv_at hl 2 rfl) ?_
    refine lv_aload_n F.1.1 F.1.2.1 dX10_order_188 rfl (lv_at hl 2 rfl) ?_
    refine mr_iconst F 3 dX10_order_189 (by decide +kernel) ?_
    refine mc_V (As := [_]) F hM (cs_X10_number l h_rd h_x h_q h_v n_q_v n_rd_x n_rd_q n_rd_v h2 h3 (by omega) hb (by decide) (by decide)) (cwV 1 F.1.2.2.2.2 (lw_V q783 q785 qs3 q106 q786) rfl rfl rfl (by decide +kernel) (mRm_ok (by decide) (by decide))) rfl h_rd rfl rfl rfl hl.1 rfl (Nat.le_of_ble_eq_true rfl) dX10_order_190 ⟨Nat.le_of_ble_eq_true rfl, Nat.le_of_ble_eq_true rfl⟩ (fun ρ190 M190 H locs hP190 hM hz190 => ?_)
    obtain ⟨u0, rfl, hu0, rfl⟩ := hP190
    have hle : (rN2 b nb 3 pl).1 ≤ nb := rNum_le hb (by omega)
    have h_x := nw_put hM (Ne.symm n_rd_x) h_x
    have h_q := nw_put hM (Ne.symm n_rd_q) h_q
    have h_v := nw_put hM (Ne.symm n_rd_v) h_v
    have h_eb := nw_put hM (Ne.symm n_rd_eb) h_eb
    have hN := nw_NB hM hN
    have h_rd := nw_self hM
    refine mc_V (As := [_]) F hM (cs_X10_writing l h_rd h_x h_q h_v n_q_v n_rd_x n_rd_q n_rd_v h2 h3 (Nat.le_trans hle (by omega)) hb hle hnb) (cwV 1 F.1.2.2.2.2 (lw_V q871 q873 qs12 q106 q874) rfl rfl rfl (by decide +kernel) (mRm_ok (by decide) (by decide))) rfl h_rd rfl rfl rfl hl.1 rfl (Nat.le_of_ble_eq_true rfl) dX10_order_193 ⟨Nat.le_of_ble_eq_true rfl, Nat.le_of_ble_eq_true rfl⟩ (fun ρ193 M193 H locs hP193 hM hz193 => ?_)
    obtain ⟨o, u1, u2, rfl, hq_o, hu1, hu2, rfl⟩ := hP193
    have z_o := hN.none h_rd hq_o
    have n_eb_o := kp_ne hq_o h_eb
    have n_rd_o := kp_ne hq_o h_rd
    have hN := tk_N hM hq_o h_rd hN
    have h_eb := tk_a hM hq_o h_rd (Ne.symm n_rd_eb) h_eb
    have h_rd := tk_r hM hq_o h_rd
    have h_o := tk_o hM
    refine lv_astore_n (lv' := [(2, _), (1, _), (0, _)]) F.1.1 F.1.2.1 dX10_order_196 rfl hl (by decide) rfl (fun ls hl => ?_)
    refine lv_goto (tgt := 297) F.1.1 F.1.2.1 dX10_order_197 (by decide) ?_
    refine lv_aload_n F.1.1 F.1.2.1 dX10_order_297 rfl (lv_at hl 2 rfl) ?_
    refine cg8 F hM h_rd 1 (by decide) q740 (fun x h => h) rfl dX10_order_298 ?_
    refine lv_if_ne (tgt := 324) F.1.1 F.1.2.1 dX10_order_301 (by decide) (fun c301 => ?_) (fun c301 => ?_)
    · have hw := rW_1 c301
      exact mr_vret F hQ hM ⟨rfl, by rw [htL, hP]; exact rOP.bad hw (h_rd.trans (congrArg (fun y => some (eO 8 [.int _, .int (rW y), .ref eb, .int _, .ref x])) hw)) h_eb hN⟩ (Nat.le_of_ble_eq_true rfl) (Nat.le_of_ble_eq_true rfl) dX10_order_324
    · have hw := rW_0 c301
      have hN9 := hN
      have hw3 : rSW b nb pl = true := tNd_w (tNd_w hw)
      have hw2 : rW2 b nb 3 pl = true := tNd_w (tNd_w hw3)
      obtain rfl := hu0 hw2
      obtain rfl := hu1 hw3
      obtain rfl := hu2 hw
      refine lv_aload_n F.1.1 F.1.2.1 dX10_order_304 rfl (lv_at hl 2 rfl) ?_
      refine cg8 F hM h_rd 2 (by decide) q741 (fun x h => h) rfl dX10_order_305 ?_
      refine lv_aload_n F.1.1 F.1.2.1 dX10_order_308 rfl (lv_at hl 2 rfl) ?_
      refine cg8 F hM h_rd 3 (by decide) q742 (fun x h => h) rfl dX10_order_309 ?_
      refine lv_aload_n F.1.1 F.1.2.1 dX10_order_312 rfl (lv_at hl 0 rfl) ?_
      refine mr_aastL F hM 8 h_eb rfl (k := 6) rfl h_o (by omega) (by omega) dX10_order_313 (fun H locs hM => ?_)
      have h_rd := nw_put hM n_rd_eb h_rd
      have h_o := nw_put hM (Ne.symm n_eb_o) h_o
      have h_eb := nw_self hM
      refine lv_aload_n F.1.1 F.1.2.1 dX10_order_314 rfl (lv_at hl 2 rfl) ?_
      refine lv_dup F.1.1 F.1.2.1 dX10_order_315 rfl ?_
      refine cg8 F hM h_rd 3 (by decide) q742 (fun x h => h) rfl dX10_order_316 ?_
      refine mr_iconst F 1 dX10_order_319 (by decide +kernel) ?_
      refine mr_iaddN F dX10_order_320 ?_
      refine cp8 F hM h_rd 3 (by decide) q742 (fun x h => h) rfl rfl rfl (Nat.le_of_ble_eq_true rfl) dX10_order_321 (fun H locs hM => ?_)
      have h_eb := nw_put hM (Ne.symm n_rd_eb) h_eb
      have h_o := nw_put hM (Ne.symm n_rd_o) h_o
      have h_rd := nw_self hM
      exact mr_vret F hQ hM ⟨rfl, by rw [htL, hP]; exact rOP.ok (o := o) hw z_o h_o (h_rd.trans (congrArg (fun y => some (eO 8 [.int _, .int (rW y), .ref eb, .int _, .ref x])) hw)) h_eb (fun a y h hr he => kp_put hr (kp_put he (hN9 a y h hr)))⟩ (Nat.le_of_ble_eq_true rfl) (Nat.le_of_ble_eq_true rfl) dX10_order_324
  · rw [hL]
    have hno := rP1_no hb hc hL (by omega)
    refine lv_tableOut (tgt := 292) F.1.1 F.1.2.1 dX10_order_8 (by rw [nI_toInt (by omega)]; omega) (by decide) ?_
    refine lv_aload_n F.1.1 F.1.2.1 dX10_order_292 rfl (lv_at hl 2 rfl) ?_
    refine mr_iconst F 1 dX10_order_293 (by decide +kernel) ?_
    refine cp8 F hM h_rd 1 (by decide) q740 (fun x h => h) rfl (by first | rfl | exact nZ_bI _) (by first | rfl | exact fZ_bI _) (Nat.le_of_ble_eq_true rfl) dX10_order_294 (fun H locs hM => ?_)
    have h_x := nw_put hM (Ne.symm n_rd_x) h_x
    have h_q := nw_put hM (Ne.symm n_rd_q) h_q
    have h_v := nw_put hM (Ne.symm n_rd_v) h_v
    have h_eb := nw_put hM (Ne.symm n_rd_eb) h_eb
    have h_rd := nw_self hM
    refine lv_aload_n F.1.1 F.1.2.1 dX10_order_297 rfl (lv_at hl 2 rfl) ?_
    refine cg8 F hM h_rd 1 (by decide) q740 (fun x h => h) rfl dX10_order_298 ?_
    refine mr_ifneN F (tgt := 324) dX10_order_301 (by decide) (by omega) (fun c301 => ?_) (fun c301 => ?_)
    · exact mr_vret F hQ hM ⟨rfl, by obtain ⟨e1, e2⟩ := rP_no hno; exact rOP.bad e2 (by rw [e1]; exact h_rd) h_eb (fun a y h hr => kp_put hr (hN a y h hr))⟩ (Nat.le_of_ble_eq_true rfl) (Nat.le_of_ble_eq_true rfl) dX10_order_324
    · exact absurd c301 (by omega)
