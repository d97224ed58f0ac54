/-! THE REFERENCE: whether a text is one -/
set_option maxHeartbeats 4000000 in
theorem ct_isText (l : Launch) {G : mG} {ad : Nat → Nat} {g r : Nat → Int32} {f : Nat → UInt32} {h : tH} {b : Nat → Int32} {M0 : mM} {lb : Nat} (hd : tAd ad) (hlb : g 9 = nI lb) (hl60 : lb ≤ 60) : mMet l yX7_isText (ws_ yX7_isText cX7_isText 2 (some .boolean)) (mRm 5 0 0) [.ref (ad 0)] G (pPre (tM G ad g r f h b M0)) (fun _ ρ M1 => ρ = some (.int (wI (tTx b lb).2)) ∧ ∃ g1 : Nat → Int32, M1 = tM G ad g1 r f h b M0 ∧ (∀ k, k < 11 → g1 k = g k) ∧ g1 11 = nI (tTx b lb).1) := by
  refine mMet.of (by decide +kernel) (Nat.le_of_ble_eq_true rfl) fun p e s m args below meth c A Q M hM0 F hnm hQ hM ls hl => ?_
  have hM0 : M = tM G ad g r f h b M0 := hM0
  subst hM0
  have hl : lv_has ls 2 [(0, .ref (ad 0))] := hl
  have hlb2 : (va_up g 11 (nI 0)) 9 = nI lb := (va_up_ne _ _ (by decide)).trans hlb
  refine lv_aload_n F.1.1 F.1.2.1 dX7_isText_0 rfl (lv_at hl 0 rfl) ?_
  refine mr_iconst F 0 dX7_isText_1 (by decide +kernel) ?_
  refine tr_put F hd hM 11 (by decide) q1731 rfl rfl rfl (tw_s11 _ _ _) dX7_isText_2 (fun H locs hM => ?_)
  refine lv_aload_n F.1.1 F.1.2.1 dX7_isText_5 rfl (lv_at hl 0 rfl) ?_
  refine lv_aload_n F.1.1 F.1.2.1 dX7_isText_6 rfl (lv_at hl 0 rfl) ?_
  refine mc_Va (As := []) F hM (ct_sign l hd (va_up_self _ _ _) hlb2 hl60 (by omega)) (cwV 0 F.1.2.2.2.2 (lw_V q2105 q2107 qs64 q88 q2108) rfl rfl rfl (by decide +kernel) (mRm_ok (by decide) (by decide))) (tM_0 hd) rfl rfl rfl rfl hl.1 rfl (Nat.le_of_ble_eq_true rfl) dX7_isText_7 ⟨Nat.le_of_ble_eq_true rfl, Nat.le_of_ble_eq_true rfl⟩ (fun H locs hM => ?_)
  refine mc_V (As := [_]) F hM (ct_part l hd (va_up_self _ _ _) hlb2 hl60 (by omega) rfl) (cwV 1 F.1.2.2.2.2 (lw_V q2109 q2111 qs65 q88 q2112) rfl rfl rfl (by decide +kernel) (mRm_ok (by decide) (by decide))) rfl (tM_0 hd) rfl rfl rfl hl.1 rfl (Nat.le_of_ble_eq_true rfl) dX7_isText_10 ⟨Nat.le_of_ble_eq_true rfl, Nat.le_of_ble_eq_true rfl⟩ (fun ρ10 M10 H locs hP10 hM _ => ?_)
  obtain ⟨rfl, hP10⟩ := hP10
  have lp : ∀ n sp : Nat, ∀ w : Bool, sp ≤ lb → (0 < n ∧ (w = true → lb < sp + n)) → tTx b lb = tTl b lb n sp w → ∀ g1 : Nat → Int32, (∀ k, k < 11 → g1 k = g k) → g1 11 = nI sp → g1 12 = wI w → ∀ (H : Heap) (locs : List Loc), mWd G A s.heap (tM G ad g1 r f h b M0) H locs → ∀ ls : Array Slot, lv_has ls 2 [(0, .ref (ad 0))] → W p l e (mRm 5 0 0) s m args below meth c H locs 0 0 Q (F0 m 13 ls []) := by
    intro n
    induction n with
    | zero =>
      intro sp w h1 h2
      exact absurd h2.1 (by decide)
    | succ n ih =>
      intro sp w hsl hsn hT g1 hk1 hs1 hw1 H locs hM ls hl
      have hlb1 : g1 9 = nI lb := (hk1 9 (by decide)).trans hlb
      refine lv_aload_n F.1.1 F.1.2.1 dX7_isText_13 rfl (lv_at hl 0 rfl) ?_
      refine tr_get F hd hM 12 (by decide) q1732 (congrArg (fun z => some (Value.int z)) hw1) dX7_isText_14 ?_
      refine lv_if_eq (tgt := 58) F.1.1 F.1.2.1 dX7_isText_17 (by decide) (fun c17 => ?_) (fun c17 => ?_)
      · have hf := wI_0 c17
        have hE : tTx b lb = (sp, w) := hT.trans (tTl_stop (fun q => by rw [hf] at q; exact absurd q.1 (by decide)))
        refine lv_aload_n F.1.1 F.1.2.1 dX7_isText_58 rfl (lv_at hl 0 rfl) ?_
        refine tr_get F hd hM 12 (by decide) q1732 (congrArg (fun z => some (Value.int z)) hw1) dX7_isText_59 ?_
        exact mr_zret F hQ (nZ_wI _) hM ⟨by rw [hE], g1, rfl, hk1, by rw [hE]; exact hs1⟩ (Nat.le_of_ble_eq_true rfl) (Nat.le_of_ble_eq_true rfl) dX7_isText_62
      · refine lv_aload_n F.1.1 F.1.2.1 dX7_isText_20 rfl (lv_at hl 0 rfl) ?_
        refine tr_get F hd hM 11 (by decide) q1731 (congrArg (fun z => some (Value.int z)) hs1) dX7_isText_21 ?_
        refine lv_aload_n F.1.1 F.1.2.1 dX7_isText_24 rfl (lv_at hl 0 rfl) ?_
        refine tr_get F hd hM 9 (by decide) q1729 (congrArg (fun z => some (Value.int z)) hlb1) dX7_isText_25 ?_
        refine mr_icmp_geN F (tgt := 58) dX7_isText_28 (by decide) (by omega) (by omega) (fun c28 => ?_) (fun c28 => ?_)
        · have hE : tTx b lb = (sp, w) := hT.trans (tTl_stop (fun q => by omega))
          refine lv_aload_n F.1.1 F.1.2.1 dX7_isText_58 rfl (lv_at hl 0 rfl) ?_
          refine tr_get F hd hM 12 (by decide) q1732 (congrArg (fun z => some (Value.int z)) hw1) dX7_isText_59 ?_
          exact mr_zret F hQ (nZ_wI _) hM ⟨by rw [hE], g1, rfl, hk1, by rw [hE]; exact hs1⟩ (Nat.le_of_ble_eq_true rfl) (Nat.le_of_ble_eq_true rfl) dX7_isText_62
        · have hc : w = true ∧ sp < lb := ⟨wI_1 c17, by omega⟩
          have hsn := hsn.2 hc.1
          refine lv_aload_n F.1.1 F.1.2.1 dX7_isText_31 rfl (lv_at hl 0 rfl) ?_
          refine mr_bipush F 59 dX7_isText_32 (by decide +kernel) ?_
          refine mr_bipush F 59 dX7_isText_34 (by decide +kernel) ?_
          refine mc_Va (As := [_, _]) F hM (ct_needs l hd hs1 hlb1 hl60 hsl hw1) (cwV 2 F.1.2.2.2.2 (lw_V q2113 q2115 qs66 q88 q2116) rfl rfl rfl (by decide +kernel) (mRm_ok (by decide) (by decide))) (tM_0 hd) rfl rfl rfl rfl hl.1 rfl (Nat.le_of_ble_eq_true rfl) dX7_isText_36 ⟨Nat.le_of_ble_eq_true rfl, Nat.le_of_ble_eq_true rfl⟩ (fun H locs hM => ?_)
          refine lv_istore_n (lv' := [(1, _), (0, _)]) F.1.1 F.1.2.1 dX7_isText_39 rfl hl (by decide) rfl (fun ls hl => ?_)
          refine lv_aload_n F.1.1 F.1.2.1 dX7_isText_40 rfl (lv_at hl 1 rfl) ?_
          refine tr_get F hd hM 12 (by decide) q1732 (congrArg (fun z => some (Value.int z)) ((va_up_ne _ _ (by decide)).trans (va_up_self _ _ _))) dX7_isText_41 ?_
          refine lv_if_eq (tgt := 55) F.1.1 F.1.2.1 dX7_isText_44 (by decide) (fun c44 => ?_) (fun c44 => ?_)
          · have hE : tTx b lb = (sp, false) := hT.trans (tTl_bad hc (wI_0 c44))
            refine lv_goto (tgt := 13) F.1.1 F.1.2.1 dX7_isText_55 (by decide) ?_
            exact ih sp false hsl ⟨by omega, fun q => Bool.noConfusion q⟩ (by rw [hE, tTl_stop (fun q => absurd q.1 (by decide))]) _ (fun k hk => (va_up_ne _ _ (by omega)).trans ((va_up_ne _ _ (by omega)).trans (hk1 k hk))) (by rw [va_up_self, wI_0 c44]; rfl) (by rw [va_up_ne _ _ (by decide), va_up_self, wI_0 c44]) _ _ hM _ (lv_sub hl [1] rfl)
          · have hn := wI_1 c44
            have hE := hT.trans (tTl_on hc hn)
            have ha : tAdv true sp = sp + 1 := rfl
            rw [hn, ha] at hM
            refine lv_aload_n F.1.1 F.1.2.1 dX7_isText_47 rfl (lv_at hl 1 rfl) ?_
            refine lv_aload_n F.1.1 F.1.2.1 dX7_isText_48 rfl (lv_at hl 1 rfl) ?_
            refine mc_Va (As := []) F hM (ct_sign l hd (va_up_self _ _ _) ((va_up_ne _ _ (by decide)).trans ((va_up_ne _ _ (by decide)).trans hlb1)) hl60 (by omega)) (cwV 0 F.1.2.2.2.2 (lw_V q2105 q2107 qs64 q88 q2108) rfl rfl rfl (by decide +kernel) (mRm_ok (by decide) (by decide))) (tM_0 hd) rfl rfl rfl rfl hl.1 rfl (Nat.le_of_ble_eq_true rfl) dX7_isText_49 ⟨Nat.le_of_ble_eq_true rfl, Nat.le_of_ble_eq_true rfl⟩ (fun H locs hM => ?_)
            refine mc_V (As := [_]) F hM (ct_part l hd (va_up_self _ _ _) ((va_up_ne _ _ (by decide)).trans ((va_up_ne _ _ (by decide)).trans hlb1)) hl60 (by omega) rfl) (cwV 1 F.1.2.2.2.2 (lw_V q2109 q2111 qs65 q88 q2112) rfl rfl rfl (by decide +kernel) (mRm_ok (by decide) (by decide))) rfl (tM_0 hd) rfl rfl rfl hl.1 rfl (Nat.le_of_ble_eq_true rfl) dX7_isText_52 ⟨Nat.le_of_ble_eq_true rfl, Nat.le_of_ble_eq_true rfl⟩ (fun ρ52 M52 H locs hP52 hM _ => ?_)
            obtain ⟨rfl, hP52⟩ := hP52
            refine lv_goto (tgt := 13) F.1.1 F.1.2.1 dX7_isText_55 (by decide) ?_
            obtain ⟨g2, hM2, hpg⟩ := hP52
            subst hM2
            exact ih _ _ (tPart_le (by omega) rfl) ⟨by omega, fun _ => by have := tPart_ge b lb (tSg b lb (sp + 1)) (sp + 1); omega⟩ hE g2 (fun k hk => (hpg.1 k hk).trans ((va_up_ne _ _ (by omega)).trans ((va_up_ne _ _ (by omega)).trans (hk1 k hk)))) hpg.2.1 hpg.2.2.1 _ _ hM _ (lv_sub hl [1] rfl)
  obtain ⟨g1, hM1, hpg⟩ := hP10
  subst hM1
  have hge : 0 ≤ lb := Nat.zero_le _
  exact lp (lb + 1) _ _ (tPart_le hge rfl) ⟨by omega, fun _ => by omega⟩ rfl g1 (fun k hk => (hpg.1 k hk).trans (va_up_ne _ _ (by omega))) hpg.2.1 hpg.2.2.1 _ _ hM _ hl
set_option maxHeartbeats 4000000 in
theorem ct_errorPosition (l : Launch) {G : mG} {ad : Nat → Nat} {g r : Nat → Int32} {f : Nat → UInt32} {h : tH} {b : Nat → Int32} {M0 : mM} {lb : Nat} (hd : tAd ad) (hlb : g 9 = nI lb) (hl60 : lb ≤ 60) : mMet l yX7_errorPosition (ws_ yX7_errorPosition cX7_errorPosition 1 (some .int)) (mRm 6 0 0) [.ref (ad 0)] G (pPre (tM G ad g r f h b M0)) (fun _ ρ M1 => ρ = some (.int (nI (if (tTx b lb).2 = true then lb else (tTx b lb).1))) ∧ ∃ g1 : Nat → Int32, M1 = tM G ad g1 r f h b M0 ∧ (∀ k, k < 10 → g1 k = g k) ∧ g1 10 = nI 0) := by
  refine mMet.of (by decide +kernel) (Nat.le_of_ble_eq_true rfl) fun p e s m args below meth c A Q M hM0 F hnm hQ hM ls hl => ?_
  have hM0 : M = tM G ad g r f h b M0 := hM0
  subst hM0
  have hl : lv_has ls 1 [(0, .ref (ad 0))] := hl
  refine lv_aload_n F.1.1 F.1.2.1 dX7_errorPosition_0 rfl (lv_at hl 0 rfl) ?_
  refine mr_iconst F 0 dX7_errorPosition_1 (by decide +kernel) ?_
  refine tr_put F hd hM 10 (by decide) q1730 rfl rfl rfl (tw_s10 _ _ _) dX7_errorPosition_2 (fun H locs hM => ?_)
  refine lv_aload_n F.1.1 F.1.2.1 dX7_errorPosition_5 rfl (lv_at hl 0 rfl) ?_
  refine mc_V (As := []) F hM (ct_isText l hd ((va_up_ne _ _ (by decide)).trans hlb) hl60) (cwV 0 F.1.2.2.2.2 (lw_V q2101 q2103 qs63 q88 q2104) rfl rfl rfl (by decide +kernel) (mRm_ok (by decide) (by decide))) rfl (tM_0 hd) rfl rfl rfl hl.1 rfl (Nat.le_of_ble_eq_true rfl) dX7_errorPosition_6 ⟨Nat.le_of_ble_eq_true rfl, Nat.le_of_ble_eq_true rfl⟩ (fun ρ6 M6 H locs hP6 hM _ => ?_)
  obtain ⟨rfl, hP6⟩ := hP6
  obtain ⟨g1, hM1, hk1, hs1⟩ := hP6
  subst hM1
  have hz : g1 10 = nI 0 := (hk1 10 (by decide)).trans (va_up_self _ _ _)
  have hk2 : ∀ k, k < 10 → g1 k = g k := fun k hk => (hk1 k (by omega)).trans (va_up_ne _ _ (by omega))
  refine lv_if_eq (tgt := 19) F.1.1 F.1.2.1 dX7_errorPosition_9 (by decide) (fun c9 => ?_) (fun c9 => ?_)
  · have hE := wI_0 c9
    refine lv_aload_n F.1.1 F.1.2.1 dX7_errorPosition_19 rfl (lv_at hl 0 rfl) ?_
    refine tr_get F hd hM 11 (by decide) q1731 (congrArg (fun z => some (Value.int z)) hs1) dX7_errorPosition_20 ?_
    exact mr_iret F hQ hM ⟨by rw [hE]; rfl, g1, rfl, hk2, hz⟩ (Nat.le_of_ble_eq_true rfl) (Nat.le_of_ble_eq_true rfl) dX7_errorPosition_23
  · have hE := wI_1 c9
    refine lv_aload_n F.1.1 F.1.2.1 dX7_errorPosition_12 rfl (lv_at hl 0 rfl) ?_
    refine tr_get F hd hM 9 (by decide) q1729 (congrArg (fun z => some (Value.int z)) ((hk1 9 (by decide)).trans ((va_up_ne _ _ (by decide)).trans hlb))) dX7_errorPosition_13 ?_
    refine lv_goto (tgt := 23) F.1.1 F.1.2.1 dX7_errorPosition_16 (by decide) ?_
    exact mr_iret F hQ hM ⟨by rw [hE]; rfl, g1, rfl, hk2, hz⟩ (Nat.le_of_ble_eq_true rfl) (Nat.le_of_ble_eq_true rfl) dX7_errorPosition_23
