/-! THE ORDERS CARRIED OUT: a call on an order's object -/
section RDC
variable {p : Program} {l : Launch} {e : Env} {R : Room} {s : State} {m : MethodId} {args : Array Value} {below : List Frame} {meth : Method} {c : Code} {H : Heap} {locs : List Loc} {cells slots : Nat} {Q : State → Prop}
variable {cc : ByteArray} {pc : Nat} {ls : Array Slot} {rest st : List Value} {G : mG} {A : Nat → Prop} {M0 : mM} {nL : Nat} {own : String} {ret0 : Option FieldType}
variable {ad : Nat → Nat} {n : Nat} {r : Nat → Int32} {f : Nat → UInt32} {dv : Nat → Int32}
set_option maxHeartbeats 4000000 in
theorem mc_ord (F : mFx p m c cc nL s args own meth ret0 G A) (hM : mWd G A s.heap (sM G ad n r f dv M0) H locs) (hz : zOk ad n r f dv) {L x z u : Int32} {a index count : Nat} (hok : rOk L x z u) (he : (sM G ad n r f dv M0) a = some (rOb G L x z u)) (hlink : Cond.methodLink own index ⟨"DiskPacks$Order", "carryOut", "(LDiskPacks$State;)Z"⟩ ∈ lw_all) (hsize : ls.size = nL) (hst : st = .ref (ad 0) :: .ref a :: rest) (hW : (rest.map fun v => v.category).sum ≤ 8) (hdg : decode cc pc = .ok (.invokeinterface index count, 5)) (r1 : 60 ≤ R.frames) (r2 : 9000 ≤ R.locals) (hf : cells + 4 ≤ R.cells ∧ slots + 9 ≤ R.slots)
    (kk : ∀ (dv' : Nat → Int32), zOk ad n (tDo r f L x z u).2.1 (tDo r f L x z u).2.2 dv' → ∀ (H1 : Heap) (locs1 : List Loc), mWd G A s.heap (sM G ad n (tDo r f L x z u).2.1 (tDo r f L x z u).2.2 dv' M0) H1 locs1 → W p l e R s m args below meth c H1 locs1 (cells + 4) (slots + 9) Q (F0 m (pc + 5) ls (.int (if (tDo r f L x z u).1 then nI 1 else nI 0) :: rest))) : W p l e R s m args below meth c H locs cells slots Q (F0 m pc ls st) := by
  have hI' := mInv_do hz.2.2.1 hok.wl (u := u)
  obtain ⟨hd9, hn9, hI9, h89, hdv⟩ := id hz
  have e89 : nD (r 89) = n := by rw [h89]; exact nD_nI (by omega)
  unfold rOk at hok
  rcases hok with ⟨rfl, ⟨d, hd, rfl⟩, k, hk, rfl⟩ | ⟨rfl, d, hd, rfl⟩ | ⟨rfl, ⟨d, hd, rfl⟩, k, hk, rfl⟩ | ⟨rfl, ⟨d, hd, rfl⟩, ⟨k, hk, rfl⟩, v, hv9, rfl⟩ | ⟨rfl, ⟨d, hd, rfl⟩, k, hk, rfl⟩ | ⟨rfl, ⟨d, hd, rfl⟩, hz1⟩ | ⟨rfl, d, hd, rfl⟩ | ⟨rfl, ⟨d, hd, rfl⟩, k, hk, rfl⟩
  · have ed : nD (nI d) = d := nD_nI (by omega)
    by_cases hc : k < n ∧ r (60 + d) = -1 ∧ dv k = -1
    · have hK : kMount r (nI d) (nI k) = 0 := by unfold kMount; rw [ed, e89]; exact cd2_0 ⟨⟨d, hd, rfl⟩, k, hc.1, rfl⟩ ⟨hc.2.1, (hdv k hc.1).symm.trans hc.2.2⟩
      have hT : tDo r f (nI 109) (nI d) (nI k) u = (true, va_up r (60 + d) (nI k), f) := by rw [tDo_m1 hK, ed]
      rw [hT] at hI' kk
      refine mc_O2 F hM (k := 0) rfl (he.trans (congrArg some (rOb_m _ _ _))) lo0 rfl (by decide +kernel) hlink (by decide +kernel) (y := yX10_lambda_mounting_0) (by decide +kernel) (by decide +kernel) (Or.inr rfl) (cs_X10_lambda_mounting_0_ok l hd9 hn9 hd hc.1 hc.2.1 hc.2.2) rfl q800 q799 q106 (lam_len (by decide +kernel)) (by decide) hsize hst hW hdg (Nat.le_trans (Nat.le_of_ble_eq_true rfl) r1) (Nat.le_trans (Nat.le_of_ble_eq_true rfl) r2) hf (fun H1 locs1 h1 => ?_)
      exact kk _ (hz.mount hd hc.1 hc.2.1 hc.2.2 hI') H1 locs1 h1
    · have hK : ¬ kMount r (nI d) (nI k) = 0 := by
        unfold kMount
        rw [ed, e89]
        intro q
        obtain ⟨⟨-, k2, h2, h3⟩, h4, h5⟩ := cd2_z q
        have : k = k2 := nK_inj (by omega) (by omega) h3
        subst this
        exact hc ⟨h2, h4, (hdv k h2).trans h5⟩
      have hT : tDo r f (nI 109) (nI d) (nI k) u = (false, r, f) := tDo_m0 hK
      rw [hT] at kk
      refine mc_O2 F hM (k := 0) rfl (he.trans (congrArg some (rOb_m _ _ _))) lo0 rfl (by decide +kernel) hlink (by decide +kernel) (y := yX10_lambda_mounting_0) (by decide +kernel) (by decide +kernel) (Or.inl rfl) (cs_X10_lambda_mounting_0_no l hd9 hn9 hd (by omega) hc) rfl q800 q799 q106 (lam_len (by decide +kernel)) (by decide) hsize hst hW hdg (Nat.le_trans (Nat.le_of_ble_eq_true rfl) r1) (Nat.le_trans (Nat.le_of_ble_eq_true rfl) r2) hf (fun H1 locs1 h1 => ?_)
      exact kk _ (hz) H1 locs1 h1
  · have ed : nD (nI d) = d := nD_nI (by omega)
    rcases hz.pk hd with hc | ⟨k, hk, hc⟩
    · have hT : tDo r f (nI 117) (nI d) z u = (false, r, f) := tDo_u0 (by unfold kPack; rw [ed]; intro q; exact (cd2_z q).2 hc)
      rw [hT] at kk
      refine mc_O1 F hM (k := 4) rfl (he.trans (congrArg some (rOb_u _ _ _))) lo4 rfl (by decide +kernel) hlink (by decide +kernel) (y := yX10_lambda_unmounting_1) (by decide +kernel) (by decide +kernel) (Or.inl rfl) (cs_X10_lambda_unmounting_1_no l hd9 hn9 hc hd) rfl q856 q855 q106 (lam_len (by decide +kernel)) (by decide) hsize hst hW hdg (Nat.le_trans (Nat.le_of_ble_eq_true rfl) r1) (Nat.le_trans (Nat.le_of_ble_eq_true rfl) r2) ⟨Nat.le_trans (Nat.add_le_add_left (Nat.zero_le 4) cells) hf.1, Nat.le_trans (Nat.add_le_add_left (Nat.zero_le 9) slots) hf.2⟩ (fun H1 locs1 h1 => ?_)
      exact W.widen (Nat.add_le_add_left (Nat.zero_le 4) cells) (Nat.add_le_add_left (Nat.zero_le 9) slots) (kk _ (hz) H1 locs1 h1)
    · have hT : tDo r f (nI 117) (nI d) z u = (true, nUnm r d, f) := by rw [tDo_u1 (by unfold kPack; rw [ed]; exact cd2_0 ⟨d, hd, rfl⟩ (by rw [hc]; exact m1_ne_nI (by omega))), ed]
      rw [hT] at hI' kk
      refine mc_O1 F hM (k := 4) rfl (he.trans (congrArg some (rOb_u _ _ _))) lo4 rfl (by decide +kernel) hlink (by decide +kernel) (y := yX10_lambda_unmounting_1) (by decide +kernel) (by decide +kernel) (Or.inr rfl) (cs_X10_lambda_unmounting_1_ok l hd9 hn9 hc hd hk) rfl q856 q855 q106 (lam_len (by decide +kernel)) (by decide) hsize hst hW hdg (Nat.le_trans (Nat.le_of_ble_eq_true rfl) r1) (Nat.le_trans (Nat.le_of_ble_eq_true rfl) r2) ⟨Nat.le_trans (Nat.add_le_add_left (Nat.zero_le 4) cells) hf.1, Nat.le_trans (Nat.add_le_add_left (Nat.zero_le 9) slots) hf.2⟩ (fun H1 locs1 h1 => ?_)
      exact W.widen (Nat.add_le_add_left (Nat.zero_le 4) cells) (Nat.add_le_add_left (Nat.zero_le 9) slots) (kk _ (hz.unmount hd hk hc hI') H1 locs1 h1)
  · have ed : nD (nI d) = d := nD_nI (by omega)
    by_cases hc : r (60 + d) = -1
    · have hT : tDo r f (nI 115) (nI d) (nI k) u = (false, r, f) := tDo_s0 (by unfold kSeek; rw [ed]; intro q; exact (cd2_z q).2 hc)
      rw [hT] at kk
      refine mc_O2 F hM (k := 5) rfl (he.trans (congrArg some (rOb_s _ _ _))) lo5 rfl (by decide +kernel) hlink (by decide +kernel) (y := yX10_lambda_seeking_2) (by decide +kernel) (by decide +kernel) (Or.inl rfl) (cs_X10_lambda_seeking_2_no l hd9 hn9 hc hd) rfl q866 q865 q106 (lam_len (by decide +kernel)) (by decide) hsize hst hW hdg (Nat.le_trans (Nat.le_of_ble_eq_true rfl) r1) (Nat.le_trans (Nat.le_of_ble_eq_true rfl) r2) ⟨Nat.le_trans (Nat.add_le_add_left (Nat.zero_le 4) cells) hf.1, Nat.le_trans (Nat.add_le_add_left (Nat.zero_le 9) slots) hf.2⟩ (fun H1 locs1 h1 => ?_)
      exact W.widen (Nat.add_le_add_left (Nat.zero_le 4) cells) (Nat.add_le_add_left (Nat.zero_le 9) slots) (kk _ (hz) H1 locs1 h1)
    · have hT : tDo r f (nI 115) (nI d) (nI k) u = (true, va_up r (52 + d) (nI k), f) := by rw [tDo_s1 (by unfold kSeek; rw [ed]; exact cd2_0 ⟨⟨d, hd, rfl⟩, k, hk, rfl⟩ hc), ed]
      rw [hT] at hI' kk
      refine mc_O2 F hM (k := 5) rfl (he.trans (congrArg some (rOb_s _ _ _))) lo5 rfl (by decide +kernel) hlink (by decide +kernel) (y := yX10_lambda_seeking_2) (by decide +kernel) (by decide +kernel) (Or.inr rfl) (cs_X10_lambda_seeking_2_ok l hd9 hn9 hc hd) rfl q866 q865 q106 (lam_len (by decide +kernel)) (by decide) hsize hst hW hdg (Nat.le_trans (Nat.le_of_ble_eq_true rfl) r1) (Nat.le_trans (Nat.le_of_ble_eq_true rfl) r2) ⟨Nat.le_trans (Nat.add_le_add_left (Nat.zero_le 4) cells) hf.1, Nat.le_trans (Nat.add_le_add_left (Nat.zero_le 9) slots) hf.2⟩ (fun H1 locs1 h1 => ?_)
      exact W.widen (Nat.add_le_add_left (Nat.zero_le 4) cells) (Nat.add_le_add_left (Nat.zero_le 9) slots) (kk _ (hz.same hI' (zSm.rf.up (by omega))) H1 locs1 h1)
  · have ed : nD (nI d) = d := nD_nI (by omega)
    have ek : nD (nI k) = k := nD_nI (by omega)
    rcases hz.pk hd with hc | ⟨k0, hk0, hc⟩
    · have hT : tDo r f (nI 119) (nI d) (nI k) (nI v) = (false, r, f) := tDo_w0 (by unfold kWrite; rw [ed]; intro q; exact (cd3_z q).2.2 hc)
      rw [hT] at kk
      refine mc_O3 F hM (k := 6) rfl (he.trans (congrArg some (rOb_w _ _ _))) lo6 rfl (by decide +kernel) hlink (by decide +kernel) (y := yX10_lambda_writing_3) (by decide +kernel) (by decide +kernel) (Or.inl rfl) (cs_X10_lambda_writing_3_no l hd9 hn9 hc hd) rfl q876 q875 q106 (lam_len (by decide +kernel)) (by decide) hsize hst hW hdg (Nat.le_trans (Nat.le_of_ble_eq_true rfl) r1) (Nat.le_trans (Nat.le_of_ble_eq_true rfl) r2) ⟨Nat.le_trans (Nat.add_le_add_left (Nat.zero_le 4) cells) hf.1, Nat.le_trans (Nat.add_le_add_left (Nat.zero_le 9) slots) hf.2⟩ (fun H1 locs1 h1 => ?_)
      exact W.widen (Nat.add_le_add_left (Nat.zero_le 4) cells) (Nat.add_le_add_left (Nat.zero_le 9) slots) (kk _ (hz) H1 locs1 h1)
    · obtain ⟨q0, hq0, hq⟩ := hz.cy hd
      have e0 : nD (nI k0) = k0 := nD_nI (by omega)
      have e1 : nD (nI q0) = q0 := nD_nI (by omega)
      have hT : tDo r f (nI 119) (nI d) (nI k) (nI v) = (true, nRubR (nWrR r d k k0 q0 (nI v)) d k k0, nRubF (nWrR r d k k0 q0 (nI v)) (nWrF r f d k k0 q0) d k k0 q0) := by
        rw [tDo_w1 (by unfold kWrite; rw [ed]; exact cd3_0 ⟨⟨d, hd, rfl⟩, k, hk, rfl⟩ ⟨v, hv9, rfl⟩ (by rw [hc]; exact m1_ne_nI (by omega)))]
        simp only [ed, ek, hc, hq, e0, e1]
      rw [hT] at hI' kk
      refine mc_O3 F hM (k := 6) rfl (he.trans (congrArg some (rOb_w _ _ _))) lo6 rfl (by decide +kernel) hlink (by decide +kernel) (y := yX10_lambda_writing_3) (by decide +kernel) (by decide +kernel) (Or.inr rfl) (cs_X10_lambda_writing_3_ok l hd9 hn9 hI9 h89 hc hq hd hk hk0 hq0) rfl q876 q875 q106 (lam_len (by decide +kernel)) (by decide) hsize hst hW hdg (Nat.le_trans (Nat.le_of_ble_eq_true rfl) r1) (Nat.le_trans (Nat.le_of_ble_eq_true rfl) r2) ⟨Nat.le_trans (Nat.add_le_add_left (Nat.zero_le 4) cells) hf.1, Nat.le_trans (Nat.add_le_add_left (Nat.zero_le 9) slots) hf.2⟩ (fun H1 locs1 h1 => ?_)
      exact W.widen (Nat.add_le_add_left (Nat.zero_le 4) cells) (Nat.add_le_add_left (Nat.zero_le 9) slots) (kk _ (hz.same hI' ((zSm.rf.wr hd hk (by omega) hq0).rub hd hk (by omega))) H1 locs1 h1)
  · have ed : nD (nI d) = d := nD_nI (by omega)
    have ek : nD (nI k) = k := nD_nI (by omega)
    rcases hz.pk hd with hc | ⟨k0, hk0, hc⟩
    · have hT : tDo r f (nI 114) (nI d) (nI k) u = (false, r, f) := tDo_r0 (by unfold kRead; rw [ed]; intro q; exact (cd2_z q).2 hc)
      rw [hT] at kk
      refine mc_O2 F hM (k := 7) rfl (he.trans (congrArg some (rOb_r _ _ _))) lo7 rfl (by decide +kernel) hlink (by decide +kernel) (y := yX10_lambda_reading_4) (by decide +kernel) (by decide +kernel) (Or.inl rfl) (cs_X10_lambda_reading_4_no l hd9 hn9 hc hd) rfl q940 q939 q106 (lam_len (by decide +kernel)) (by decide) hsize hst hW hdg (Nat.le_trans (Nat.le_of_ble_eq_true rfl) r1) (Nat.le_trans (Nat.le_of_ble_eq_true rfl) r2) ⟨Nat.le_trans (Nat.add_le_add_left (Nat.zero_le 4) cells) hf.1, Nat.le_trans (Nat.add_le_add_left (Nat.zero_le 9) slots) hf.2⟩ (fun H1 locs1 h1 => ?_)
      exact W.widen (Nat.add_le_add_left (Nat.zero_le 4) cells) (Nat.add_le_add_left (Nat.zero_le 9) slots) (kk _ (hz) H1 locs1 h1)
    · obtain ⟨q0, hq0, hq⟩ := hz.cy hd
      obtain ⟨t, ht, ht8⟩ := hz.tr
      have e0 : nD (nI k0) = k0 := nD_nI (by omega)
      have e1 : nD (nI q0) = q0 := nD_nI (by omega)
      have e2 : nD (nI t) = t := nD_nI (by omega)
      have hT : tDo r f (nI 114) (nI d) (nI k) u = (true, nRubR (nRdR r d k0 t (mRt r f d k k0 q0 t)) d k k0, nRubF (nRdR r d k0 t (mRt r f d k k0 q0 t)) f d k k0 q0) := by
        rw [tDo_r1 (by unfold kRead; rw [ed]; exact cd2_0 ⟨⟨d, hd, rfl⟩, k, hk, rfl⟩ (by rw [hc]; exact m1_ne_nI (by omega)))]
        simp only [ed, ek, hc, hq, ht, e0, e1, e2]
      rw [hT] at hI' kk
      refine mc_O2 F hM (k := 7) rfl (he.trans (congrArg some (rOb_r _ _ _))) lo7 rfl (by decide +kernel) hlink (by decide +kernel) (y := yX10_lambda_reading_4) (by decide +kernel) (by decide +kernel) (Or.inr rfl) (cs_X10_lambda_reading_4_ok l hd9 hn9 hI9 h89 hc hq ht ht8 hd hk hk0 hq0) rfl q940 q939 q106 (lam_len (by decide +kernel)) (by decide) hsize hst hW hdg (Nat.le_trans (Nat.le_of_ble_eq_true rfl) r1) (Nat.le_trans (Nat.le_of_ble_eq_true rfl) r2) ⟨Nat.le_trans (Nat.add_le_add_left (Nat.zero_le 4) cells) hf.1, Nat.le_trans (Nat.add_le_add_left (Nat.zero_le 9) slots) hf.2⟩ (fun H1 locs1 h1 => ?_)
      exact W.widen (Nat.add_le_add_left (Nat.zero_le 4) cells) (Nat.add_le_add_left (Nat.zero_le 9) slots) (kk _ (hz.same hI' ((zSm.rf.rd hd (by omega)).rub hd hk (by omega))) H1 locs1 h1)
  · have ed : nD (nI d) = d := nD_nI (by omega)
    have hb : bI (z = nI 1) = z := by
      rcases hz1 with e | e
      · rw [e]; exact bI_f (by decide)
      · rw [e]; exact bI_t rfl
    have hs := hI9.2.2.2.1 (4 * d + 3) (by omega)
    by_cases hc : ¬ z = 0 ∧ r (16 + (4 * d + 3)) = nI 1
    · have hT : tDo r f (nI 118) (nI d) z u = (false, r, f) := tDo_v0 (by unfold kServo; rw [ed, hb]; intro q; exact (cd2_z q).2 hc)
      rw [hT] at kk
      refine mc_O2z F hM (k := 8) rfl (he.trans (congrArg some (rOb_v _ _ _))) lo8 rfl (by decide +kernel) hlink (by decide +kernel) (y := yX10_lambda_turning_5) (by decide +kernel) (by decide +kernel) (Or.inl rfl) (cs_X10_lambda_turning_5_no l hd9 hn9 hc hd) rfl q979 q978 q106 (lam_len (by decide +kernel)) (by decide) hsize hst hW hdg (Nat.le_trans (Nat.le_of_ble_eq_true rfl) r1) (Nat.le_trans (Nat.le_of_ble_eq_true rfl) r2) ⟨Nat.le_trans (Nat.add_le_add_left (Nat.zero_le 4) cells) hf.1, Nat.le_trans (Nat.add_le_add_left (Nat.zero_le 9) slots) hf.2⟩ (fun H1 locs1 h1 => ?_)
      exact W.widen (Nat.add_le_add_left (Nat.zero_le 4) cells) (Nat.add_le_add_left (Nat.zero_le 9) slots) (kk _ (hz) H1 locs1 h1)
    · have hT : tDo r f (nI 118) (nI d) z u = (true, va_up r (56 + d) z, f) := by rw [tDo_v1 (by unfold kServo; rw [ed, hb]; exact cd2_0 ⟨d, hd, rfl⟩ hc), ed]
      rw [hT] at hI' kk
      refine mc_O2z F hM (k := 8) rfl (he.trans (congrArg some (rOb_v _ _ _))) lo8 rfl (by decide +kernel) hlink (by decide +kernel) (y := yX10_lambda_turning_5) (by decide +kernel) (by decide +kernel) (Or.inr rfl) (cs_X10_lambda_turning_5_ok l hd9 hn9 hc hs hz1 hd) rfl q979 q978 q106 (lam_len (by decide +kernel)) (by decide) hsize hst hW hdg (Nat.le_trans (Nat.le_of_ble_eq_true rfl) r1) (Nat.le_trans (Nat.le_of_ble_eq_true rfl) r2) ⟨Nat.le_trans (Nat.add_le_add_left (Nat.zero_le 4) cells) hf.1, Nat.le_trans (Nat.add_le_add_left (Nat.zero_le 9) slots) hf.2⟩ (fun H1 locs1 h1 => ?_)
      exact W.widen (Nat.add_le_add_left (Nat.zero_le 4) cells) (Nat.add_le_add_left (Nat.zero_le 9) slots) (kk _ (hz.same hI' (zSm.rf.up (by omega))) H1 locs1 h1)
  · have ed : nD (nI d) = d := nD_nI (by omega)
    by_cases hc : d < n ∧ dv d = -1
    · have hT : tDo r f (nI 99) (nI d) z u = (true, nPolR r d 3, nPolF r f d 3) := by rw [tDo_c1 (by unfold kPolish; rw [e89]; exact cd2_0 ⟨d, hc.1, rfl⟩ ((hdv d hc.1).symm.trans hc.2)), ed]
      rw [hT] at hI' kk
      refine mc_O1 F hM (k := 9) rfl (he.trans (congrArg some (rOb_c _ _ _))) lo9 rfl (by decide +kernel) hlink (by decide +kernel) (y := yX10_lambda_polishing_6) (by decide +kernel) (by decide +kernel) (Or.inr rfl) (cs_X10_lambda_polishing_6_ok l hd9 hn9 hI9 hc.1 hc.2) rfl q989 q988 q106 (lam_len (by decide +kernel)) (by decide) hsize hst hW hdg (Nat.le_trans (Nat.le_of_ble_eq_true rfl) r1) (Nat.le_trans (Nat.le_of_ble_eq_true rfl) r2) ⟨Nat.le_trans (Nat.add_le_add_left (Nat.zero_le 4) cells) hf.1, Nat.le_trans (Nat.add_le_add_left (Nat.zero_le 9) slots) hf.2⟩ (fun H1 locs1 h1 => ?_)
      exact W.widen (Nat.add_le_add_left (Nat.zero_le 4) cells) (Nat.add_le_add_left (Nat.zero_le 9) slots) (kk _ (hz.same hI' (zSm.rf.pol (by omega))) H1 locs1 h1)
    · have hK : ¬ kPolish r (nI d) = 0 := by
        unfold kPolish
        rw [e89]
        intro q
        obtain ⟨⟨k2, h2, h3⟩, h5⟩ := cd2_z q
        have : d = k2 := nK_inj (by omega) (by omega) h3
        subst this
        exact hc ⟨h2, (hdv d h2).trans h5⟩
      have hT : tDo r f (nI 99) (nI d) z u = (false, r, f) := tDo_c0 hK
      rw [hT] at kk
      refine mc_O1 F hM (k := 9) rfl (he.trans (congrArg some (rOb_c _ _ _))) lo9 rfl (by decide +kernel) hlink (by decide +kernel) (y := yX10_lambda_polishing_6) (by decide +kernel) (by decide +kernel) (Or.inl rfl) (cs_X10_lambda_polishing_6_no l hd9 hn9 (by omega) hc) rfl q989 q988 q106 (lam_len (by decide +kernel)) (by decide) hsize hst hW hdg (Nat.le_trans (Nat.le_of_ble_eq_true rfl) r1) (Nat.le_trans (Nat.le_of_ble_eq_true rfl) r2) ⟨Nat.le_trans (Nat.add_le_add_left (Nat.zero_le 4) cells) hf.1, Nat.le_trans (Nat.add_le_add_left (Nat.zero_le 9) slots) hf.2⟩ (fun H1 locs1 h1 => ?_)
      exact W.widen (Nat.add_le_add_left (Nat.zero_le 4) cells) (Nat.add_le_add_left (Nat.zero_le 9) slots) (kk _ (hz) H1 locs1 h1)
  · have ed : nD (nI d) = d := nD_nI (by omega)
    have ek : nD (nI k) = k := nD_nI (by omega)
    have hT : tDo r f (nI 102) (nI d) (nI k) u = (true, nMend r d k, f) := by rw [tDo_f, ed, ek]
    rw [hT] at hI' kk
    by_cases hc : k = 3
    · subst hc
      refine mc_O2 F hM (k := 10) rfl (he.trans (congrArg some (rOb_f _ _ _))) lo10 rfl (by decide +kernel) hlink (by decide +kernel) (y := yX10_lambda_mending_7) (by decide +kernel) (by decide +kernel) (Or.inr rfl) (cs_X10_lambda_mending_7_S l hd9 hn9 hd) rfl q1004 q1003 q106 (lam_len (by decide +kernel)) (by decide) hsize hst hW hdg (Nat.le_trans (Nat.le_of_ble_eq_true rfl) r1) (Nat.le_trans (Nat.le_of_ble_eq_true rfl) r2) ⟨Nat.le_trans (Nat.add_le_add_left (Nat.zero_le 4) cells) hf.1, Nat.le_trans (Nat.add_le_add_left (Nat.zero_le 9) slots) hf.2⟩ (fun H1 locs1 h1 => ?_)
      exact W.widen (Nat.add_le_add_left (Nat.zero_le 4) cells) (Nat.add_le_add_left (Nat.zero_le 9) slots) (kk _ (hz.same hI' (zSm.rf.mend hd (by omega))) H1 locs1 h1)
    · refine mc_O2 F hM (k := 10) rfl (he.trans (congrArg some (rOb_f _ _ _))) lo10 rfl (by decide +kernel) hlink (by decide +kernel) (y := yX10_lambda_mending_7) (by decide +kernel) (by decide +kernel) (Or.inr rfl) (cs_X10_lambda_mending_7_D l hd9 hn9 hd (show k < 3 by omega)) rfl q1004 q1003 q106 (lam_len (by decide +kernel)) (by decide) hsize hst hW hdg (Nat.le_trans (Nat.le_of_ble_eq_true rfl) r1) (Nat.le_trans (Nat.le_of_ble_eq_true rfl) r2) ⟨Nat.le_trans (Nat.add_le_add_left (Nat.zero_le 4) cells) hf.1, Nat.le_trans (Nat.add_le_add_left (Nat.zero_le 9) slots) hf.2⟩ (fun H1 locs1 h1 => ?_)
      exact W.widen (Nat.add_le_add_left (Nat.zero_le 4) cells) (Nat.add_le_add_left (Nat.zero_le 9) slots) (kk _ (hz.same hI' (zSm.rf.mend hd (by omega))) H1 locs1 h1)
end RDC
