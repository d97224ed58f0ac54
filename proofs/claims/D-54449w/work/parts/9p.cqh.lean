/-! THE TEXT READER: all of it -/
set_option maxHeartbeats 4000000 in
theorem cs_X10_readAll (l : Launch) {G : mG} {M0 : mM} {rd x q v eb cap nb  : Nat} {z : Int32} {t b : Nat → Int32} {vs vn vq : Value} {fn : Nat → Option Nat} (h_rd : M0 rd = some (eO 8 [.int (nI 0), .int (rW true), .ref eb, .int (nI 0), .ref x])) (h_x : M0 x = some (eO 0 [vs, vn, vq, .ref q])) (h_q : M0 q = some (eO 11 [.ref v, .int (nI 0), .int z, .int (nI nb)])) (h_v : M0 v = some (eI (G.2.1 3) cap t)) (n_q_v : q ≠ v) (n_rd_x : rd ≠ x) (n_rd_q : rd ≠ q) (n_rd_v : rd ≠ v) (h_eb : M0 eb = some (eQ (G.2.1 8) 60 fn)) (n_rd_eb : rd ≠ eb) (n_x_eb : x ≠ eb) (n_q_eb : q ≠ eb) (n_v_eb : v ≠ eb) (h2 : nb ≤ cap) (h3 : cap ≤ 100) (hb : rTx b t nb) (hnb : nb ≤ 60) : mMet l yX10_readAll (ws_ yX10_readAll cX10_readAll 1 (some .boolean)) (mRm 10 62 186) [.ref rd] G (pPre M0) (fun _ ρ M1 => ρ = some (.int (if (tTx b nb).2 then nI 1 else nI 0)) ∧ ∃ (k : Nat) (fn1 : Nat → Option Nat), M1 rd = some (eO 8 [.int (nI (tTx b nb).1), .int (rW (tTx b nb).2), .ref eb, .int (nI k), .ref x]) ∧ rInv G rd eb b nb k fn1 M0 M1 ∧ k ≤ 61 ∧ ((tTx b nb).2 = true → ¬ rPos b nb k < nb)) := by
  refine mMet.of (by decide +kernel) (Nat.le_of_ble_eq_true rfl) fun p e s m args below meth c A Q M hM0 F hnm hQ hM ls hl => ?_
  have hM0 : M0 = M := hM0.symm
  subst hM0
  have hl : lv_has ls 1 [(0, .ref rd)] := hl
  have h_rd0 := h_rd
  have h_x0 := h_x
  have h_q0 := h_q
  have h_v0 := h_v
  have h_eb0 := h_eb
  refine lv_aload_n F.1.1 F.1.2.1 dX10_readAll_0 rfl (lv_at hl 0 rfl) ?_
  refine mc_V (As := []) F hM (cs_X10_order l h_rd h_x h_q h_v n_q_v n_rd_x n_rd_q n_rd_v h_eb n_rd_eb n_x_eb n_q_eb n_v_eb h2 h3 (by decide) hb hnb (by decide)) (cwV 0 F.1.2.2.2.2 (lw_V q759 q761 qs1 q106 q762) rfl rfl rfl (by decide +kernel) (mRm_ok (by decide) (by decide))) rfl h_rd rfl rfl rfl hl.1 rfl (Nat.le_of_ble_eq_true rfl) dX10_readAll_1 ⟨Nat.le_of_ble_eq_true rfl, Nat.le_of_ble_eq_true rfl⟩ (fun ρ1 M1 H locs hP1 hM hz1 => ?_)
  obtain ⟨rfl, hO1⟩ := hP1
  obtain ⟨fn1, hI1⟩ := (rInv.start (rd := rd) (b := b) (nb := nb) h_eb).step h_rd h_eb (fun o h => h) (rfl : rPos b nb 0 = 0) hO1
  have h_rd1 : M1 rd = some (eO 8 [.int (nI (tPart b nb (tSg b nb 0) 0).1), .int (rW (tPart b nb (tSg b nb 0) 0).2.1), .ref eb, .int (nI (if (tPart b nb (tSg b nb 0) 0).2.1 then 0 + 1 else 0)), .ref x]) := by obtain ⟨o, -, h, -⟩ := hO1; exact h
  have lp : ∀ j i sp mn : Nat, ∀ (w : Bool) (fn : Nat → Option Nat) (Mx : mM), i + j = nb + 1 → (w = true → nb < sp + j) → sp ≤ nb → mn ≤ sp + 1 → tTx b nb = tTl b nb j sp w → (w = true → rPos b nb mn = sp + 1) → Mx rd = some (eO 8 [.int (nI sp), .int (rW w), .ref eb, .int (nI mn), .ref x]) → rInv G rd eb b nb mn fn M0 Mx → ∀ (H : Heap) (locs : List Loc), mWd G A s.heap Mx H locs → ∀ ls : Array Slot, lv_has ls 1 [(0, .ref rd)] → W p l e (mRm 10 62 186) s m args below meth c H locs (1 + i) (3 + 3 * i) Q (F0 m 4 ls []) := by
    intro j
    induction j with
    | zero =>
      intro i sp mn w fn Mx hi hf hsp hmn hT hpos h_rd hI H locs hM ls hl
      have hw : w = false := by
        cases w
        · rfl
        · exact absurd (hf rfl) (by omega)
      refine lv_aload_n F.1.1 F.1.2.1 dX10_readAll_4 rfl (lv_at hl 0 rfl) ?_
      refine cg8 F hM h_rd 1 (by decide) q740 (fun x h => h) rfl dX10_readAll_5 ?_
      refine lv_if_ne (tgt := 48) F.1.1 F.1.2.1 dX10_readAll_8 (by decide) (fun c8 => ?_) (fun c8 => ?_)
      · have hw := rW_1 c8
        have hX : tTx b nb = (sp, false) := hT.trans (by rw [hw]; exact tTl_stop (fun q => by cases q.1))
        refine lv_aload_n F.1.1 F.1.2.1 dX10_readAll_48 rfl (lv_at hl 0 rfl) ?_
        refine cg8 F hM h_rd 1 (by decide) q740 (fun x h => h) rfl dX10_readAll_49 ?_
        refine lv_if_ne (tgt := 59) F.1.1 F.1.2.1 dX10_readAll_52 (by decide) (fun c52 => ?_) (fun c52 => ?_)
        · refine mr_iconst F 0 dX10_readAll_59 (by decide +kernel) ?_
          exact mr_zret F hQ rfl hM ⟨by rw [hX]; rfl, mn, fn, h_rd.trans (by rw [hX, hw]), hI, by omega, fun q => by rw [hX] at q; cases q⟩ (by show 1 + i ≤ 62; omega) (by show 3 + 3 * i ≤ 186; omega) dX10_readAll_60
        · exact absurd c52 c8
      · exact absurd c8 (by rw [hw]; decide)
    | succ j ih =>
      intro i sp mn w fn Mx hi hf hsp hmn hT hpos h_rd hI H locs hM ls hl
      have h_x := hI.2.2 x _ h_x0 (Ne.symm n_rd_x) n_x_eb
      have h_q := hI.2.2 q _ h_q0 (Ne.symm n_rd_q) n_q_eb
      have h_v := hI.2.2 v _ h_v0 (Ne.symm n_rd_v) n_v_eb
      have h_eb := hI.2.1
      refine lv_aload_n F.1.1 F.1.2.1 dX10_readAll_4 rfl (lv_at hl 0 rfl) ?_
      refine cg8 F hM h_rd 1 (by decide) q740 (fun x h => h) rfl dX10_readAll_5 ?_
      refine lv_if_ne (tgt := 48) F.1.1 F.1.2.1 dX10_readAll_8 (by decide) (fun c8 => ?_) (fun c8 => ?_)
      · have hw := rW_1 c8
        have hX : tTx b nb = (sp, false) := hT.trans (by rw [hw]; exact tTl_stop (fun q => by cases q.1))
        refine lv_aload_n F.1.1 F.1.2.1 dX10_readAll_48 rfl (lv_at hl 0 rfl) ?_
        refine cg8 F hM h_rd 1 (by decide) q740 (fun x h => h) rfl dX10_readAll_49 ?_
        refine lv_if_ne (tgt := 59) F.1.1 F.1.2.1 dX10_readAll_52 (by decide) (fun c52 => ?_) (fun c52 => ?_)
        · refine mr_iconst F 0 dX10_readAll_59 (by decide +kernel) ?_
          exact mr_zret F hQ rfl hM ⟨by rw [hX]; rfl, mn, fn, h_rd.trans (by rw [hX, hw]), hI, by omega, fun q => by rw [hX] at q; cases q⟩ (by show 1 + i ≤ 62; omega) (by show 3 + 3 * i ≤ 186; omega) dX10_readAll_60
        · exact absurd c52 c8
      · have hw := rW_0 c8
        refine lv_aload_n F.1.1 F.1.2.1 dX10_readAll_11 rfl (lv_at hl 0 rfl) ?_
        refine cg8 F hM h_rd 0 (by decide) q738 (fun x h => h) rfl dX10_readAll_12 ?_
        refine lv_aload_n F.1.1 F.1.2.1 dX10_readAll_15 rfl (lv_at hl 0 rfl) ?_
        refine cg8 F hM h_rd 4 (by decide) q743 (fun x h => h) rfl dX10_readAll_16 ?_
        refine cgN0 F hM h_x 3 (by decide) q388 (fun x h => h) rfl dX10_readAll_19 ?_
        refine mc_Va (As := []) F hM (cs_J10_length l h_q) (cwV 0 F.1.2.2.2.2 (lw_V q767 q441 q442 q86 q443) rfl rfl rfl (by decide +kernel) (mRm_ok (by decide) (by decide))) h_q rfl rfl rfl rfl hl.1 rfl (Nat.le_of_ble_eq_true rfl) dX10_readAll_22 ⟨(by show 1 + i + 0 ≤ 62; omega), (by show 3 + 3 * i + 0 ≤ 186; omega)⟩ (fun H locs hM => ?_)
        refine mr_icmp_geN F (tgt := 48) dX10_readAll_25 (by decide) (by omega) (by omega) (fun c25 => ?_) (fun c25 => ?_)
        · have hX : tTx b nb = (sp, true) := hT.trans (by rw [hw]; exact tTl_stop (fun q => by have := q.2; omega))
          refine lv_aload_n F.1.1 F.1.2.1 dX10_readAll_48 rfl (lv_at hl 0 rfl) ?_
          refine cg8 F hM h_rd 1 (by decide) q740 (fun x h => h) rfl dX10_readAll_49 ?_
          refine lv_if_ne (tgt := 59) F.1.1 F.1.2.1 dX10_readAll_52 (by decide) (fun c52 => ?_) (fun c52 => ?_)
          · exact absurd c8 c52
          · refine mr_iconst F 1 dX10_readAll_55 (by decide +kernel) ?_
            refine lv_goto (tgt := 60) F.1.1 F.1.2.1 dX10_readAll_56 (by decide) ?_
            exact mr_zret F hQ rfl hM ⟨by rw [hX]; rfl, mn, fn, h_rd.trans (by rw [hX, hw]), hI, by omega, fun _ => by rw [hpos hw]; omega⟩ (by show 1 + i ≤ 62; omega) (by show 3 + 3 * i ≤ 186; omega) dX10_readAll_60
        · refine lv_aload_n F.1.1 F.1.2.1 dX10_readAll_28 rfl (lv_at hl 0 rfl) ?_
          refine mr_bipush F 59 dX10_readAll_29 (by decide +kernel) ?_
          refine mc_Vv (As := [_]) F hM (cs_X10_sign l h_rd h_x h_q h_v n_q_v n_rd_x n_rd_q n_rd_v h2 h3 (by omega) hb (by decide) (by decide)) (cwV 1 F.1.2.2.2.2 (lw_V q795 q797 qs6 q106 q798) rfl rfl rfl (by decide +kernel) (mRm_ok (by decide) (by decide))) h_rd rfl rfl rfl rfl hl.1 rfl (Nat.le_of_ble_eq_true rfl) dX10_readAll_31 ⟨(by show 1 + i + 0 ≤ 62; omega), (by show 3 + 3 * i + 0 ≤ 186; omega)⟩ (fun H locs hM => ?_)
          have hI := hI.put (e := eO 8 [.int (nI (tAdv (tNd b nb (nI 59) (nI 59) sp w) sp)), .int (rW (tNd b nb (nI 59) (nI 59) sp w)), .ref eb, .int (nI mn), .ref x]) h_rd0 n_rd_eb
          have h_x := nw_put hM (Ne.symm n_rd_x) h_x
          have h_q := nw_put hM (Ne.symm n_rd_q) h_q
          have h_v := nw_put hM (Ne.symm n_rd_v) h_v
          have h_eb := nw_put hM (Ne.symm n_rd_eb) h_eb
          have h_rd := nw_self hM
          refine lv_aload_n F.1.1 F.1.2.1 dX10_readAll_34 rfl (lv_at hl 0 rfl) ?_
          refine cg8 F hM h_rd 1 (by decide) q740 (fun x h => h) rfl dX10_readAll_35 ?_
          refine lv_if_ne (tgt := 4) F.1.1 F.1.2.1 dX10_readAll_38 (by decide) (fun c38 => ?_) (fun c38 => ?_)
          · have hw2 := rW_1 c38
            exact W.widen (by show 1 + i ≤ 1 + (i + 1); omega) (by show 3 + 3 * i ≤ 3 + 3 * (i + 1); omega) (ih (i + 1) sp mn false fn _ (by omega) (fun q => by cases q) hsp hmn (hT.trans ((tTl_bad ⟨hw, by omega⟩ hw2).trans (tTl_stop (fun q => by cases q.1)).symm)) (fun q => by cases q) (h_rd.trans (congrArg (fun y => some (eO 8 [.int (nI (tAdv y sp)), .int (rW y), .ref eb, .int (nI mn), .ref x])) hw2)) hI _ _ hM _ hl)
          · have hw2 := rW_0 c38
            have h_rd := h_rd.trans (congrArg (fun y => some (eO 8 [.int (nI (tAdv y sp)), .int (rW y), .ref eb, .int (nI mn), .ref x])) hw2)
            refine lv_aload_n F.1.1 F.1.2.1 dX10_readAll_41 rfl (lv_at hl 0 rfl) ?_
            refine mc_V (As := []) F hM (cs_X10_order l h_rd h_x h_q h_v n_q_v n_rd_x n_rd_q n_rd_v h_eb n_rd_eb n_x_eb n_q_eb n_v_eb h2 h3 (show sp + 1 ≤ 99 by omega) hb hnb hmn) (cwV 0 F.1.2.2.2.2 (lw_V q759 q761 qs1 q106 q762) rfl rfl rfl (by decide +kernel) (mRm_ok (by decide) (by decide))) rfl h_rd rfl rfl rfl hl.1 rfl (Nat.le_of_ble_eq_true rfl) dX10_readAll_42 ⟨(by show 1 + i + 1 ≤ 62; omega), (by show 3 + 3 * i + 3 ≤ 186; omega)⟩ (fun ρ42 M42 H locs hP42 hM hz42 => ?_)
            obtain ⟨rfl, hO⟩ := hP42
            obtain ⟨fn2, hI2⟩ := hI.step h_rd0 h_eb0 (fun o h => hI.none h_rd h) (hpos hw) hO
            have h_rd2 : M42 rd = some (eO 8 [.int (nI (tPart b nb (tSg b nb (sp + 1)) (sp + 1)).1), .int (rW (tPart b nb (tSg b nb (sp + 1)) (sp + 1)).2.1), .ref eb, .int (nI (if (tPart b nb (tSg b nb (sp + 1)) (sp + 1)).2.1 then mn + 1 else mn)), .ref x]) := by obtain ⟨o, -, h, -⟩ := hO; exact h
            refine lv_goto (tgt := 4) F.1.1 F.1.2.1 dX10_readAll_45 (by decide) ?_
            have hge := tPart_ge b nb (tSg b nb (sp + 1)) (sp + 1)
            exact ih (i + 1) _ _ _ fn2 _ (by omega) (fun _ => by have := hf hw; omega) (tPart_le (by omega) rfl) (by split <;> omega) (hT.trans (tTl_on ⟨hw, by omega⟩ hw2)) (fun q => rPos_s (hpos hw) q) h_rd2 hI2 _ _ hM _ hl
  exact lp (nb + 1) 0 _ _ _ fn1 _ (by omega) (fun _ => by omega) (tPart_le (Nat.zero_le _) rfl) (by split <;> omega) rfl (fun q => rPos_s rfl q) h_rd1 hI1 _ _ hM _ hl
