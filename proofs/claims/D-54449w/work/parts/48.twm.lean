/-! THE REFERENCE: a text carried out -/
set_option maxHeartbeats 4000000 in
theorem ct_runText (l : Launch) {G : mG} {ad : Nat → Nat} {g r : Nat → Int32} {f : Nat → UInt32} {h : tH} {b : Nat → Int32} {M0 : mM} {lb m0 : Nat} (hd : tAd ad) (hI : mInv r f) (hg : g 4 = nI m0) (hm : m0 ≤ 5) (hlb : g 9 = nI lb) (hl60 : lb ≤ 60) : mMet l yX7_runText (ws_ yX7_runText cX7_runText 3 (some .int)) (mRm 7 0 0) [.ref (ad 0)] G (pPre (tM G ad g r f h b M0)) (fun _ ρ M1 => ((tTx b lb).2 = false ∧ ρ = some (.int (nI 0)) ∧ ∃ g1 : Nat → Int32, M1 = tM G ad g1 r f h b M0 ∧ (∀ k, k < 10 → g1 k = g k) ∧ g1 10 = nI 1) ∨ ((tTx b lb).2 = true ∧ ρ = some (.int (nI (tRun b lb (lb + 1) 0 r f).1)) ∧ ∃ g1 : Nat → Int32, M1 = tM G ad g1 (tRun b lb (lb + 1) 0 r f).2.1 (tRun b lb (lb + 1) 0 r f).2.2 (mRc m0 h r f) b M0 ∧ (∀ k, k < 10 → k ≠ 4 → g1 k = g k) ∧ g1 4 = nI (mK m0 + 1) ∧ g1 10 = nI 0)) := by
  refine mMet.of (by decide +kernel) (Nat.le_of_ble_eq_true rfl) fun p e s m args below meth c A Q M hM0 F hnm hQ hM ls hl => ?_
  have hM0 : M = tM G ad g r f h b M0 := hM0
  subst hM0
  have hl : lv_has ls 3 [(0, .ref (ad 0))] := hl
  refine lv_aload_n F.1.1 F.1.2.1 dX7_runText_0 rfl (lv_at hl 0 rfl) ?_
  refine mr_iconst F 0 dX7_runText_1 (by decide +kernel) ?_
  refine tr_put F hd hM 10 (by decide) q1730 rfl rfl rfl (tw_s10 _ _ _) dX7_runText_2 (fun H locs hM => ?_)
  refine lv_aload_n F.1.1 F.1.2.1 dX7_runText_5 rfl (lv_at hl 0 rfl) ?_
  refine mc_V (As := []) F hM (ct_isText l hd ((va_up_ne _ _ (by decide)).trans hlb) hl60) (cwV 0 F.1.2.2.2.2 (lw_V q2101 q2103 qs63 q88 q2104) rfl rfl rfl (by decide +kernel) (mRm_ok (by decide) (by decide))) rfl (tM_0 hd) rfl rfl rfl hl.1 rfl (Nat.le_of_ble_eq_true rfl) dX7_runText_6 ⟨Nat.le_of_ble_eq_true rfl, Nat.le_of_ble_eq_true rfl⟩ (fun ρ6 M6 H locs hP6 hM _ => ?_)
  obtain ⟨rfl, hP6⟩ := hP6
  obtain ⟨g1, hM1, hk1, hs1⟩ := hP6
  subst hM1
  refine lv_if_ne (tgt := 18) F.1.1 F.1.2.1 dX7_runText_9 (by decide) (fun c9 => ?_) (fun c9 => ?_)
  · have hT := wI_1 c9
    refine lv_aload_n F.1.1 F.1.2.1 dX7_runText_18 rfl (lv_at hl 0 rfl) ?_
    refine mc_Vv (As := []) F hM (ct_records l hd ((hk1 4 (by decide)).trans ((va_up_ne _ _ (by decide)).trans hg)) hm) (cwV 0 F.1.2.2.2.2 (lw_V q1800 q1802 qs36 q88 q1803) rfl rfl rfl (by decide +kernel) (mRm_ok (by decide) (by decide))) (tM_0 hd) rfl rfl rfl rfl hl.1 rfl (Nat.le_of_ble_eq_true rfl) dX7_runText_19 ⟨Nat.le_of_ble_eq_true rfl, Nat.le_of_ble_eq_true rfl⟩ (fun H locs hM => ?_)
    refine mr_iconst F 0 dX7_runText_22 (by decide +kernel) ?_
    refine lv_istore_n (lv' := [(1, _), (0, _)]) F.1.1 F.1.2.1 dX7_runText_23 rfl hl (by decide) rfl (fun ls hl => ?_)
    refine mr_iconst F 1 dX7_runText_24 (by decide +kernel) ?_
    refine lv_istore_n (lv' := [(2, _), (1, _), (0, _)]) F.1.1 F.1.2.1 dX7_runText_25 rfl hl (by decide) rfl (fun ls hl => ?_)
    refine lv_aload_n F.1.1 F.1.2.1 dX7_runText_26 rfl (lv_at hl 2 rfl) ?_
    refine mr_iconst F 0 dX7_runText_27 (by decide +kernel) ?_
    refine tr_put F hd hM 11 (by decide) q1731 rfl rfl rfl (tw_s11 _ _ _) dX7_runText_28 (fun H locs hM => ?_)
    have lp : ∀ n sp dn : Nat, ∀ w : Bool, ∀ (r1 : Nat → Int32) (f1 : Nat → UInt32), mInv r1 f1 → 0 < n → (w = true → sp < lb → lb < sp + n ∧ tOk b lb n sp) → sp ≤ lb + 1 → tRun b lb (lb + 1) 0 r f = (dn + (if w = true then tRun b lb n sp r1 f1 else (0, r1, f1)).1, (if w = true then tRun b lb n sp r1 f1 else (0, r1, f1)).2) → ∀ g1 : Nat → Int32, (∀ k, k < 10 → k ≠ 4 → g1 k = g k) → g1 4 = nI (mK m0 + 1) → g1 10 = nI 0 → g1 11 = nI sp → ∀ (H : Heap) (locs : List Loc), mWd G A s.heap (tM G ad g1 r1 f1 (mRc m0 h r f) b M0) H locs → ∀ ls : Array Slot, lv_has ls 3 [(2, .int (wI w)), (1, .int (nI dn)), (0, .ref (ad 0))] → W p l e (mRm 7 0 0) s m args below meth c H locs 0 0 Q (F0 m 31 ls []) := by
      intro n
      induction n with
      | zero =>
        intro sp dn w r1 f1 hI1 h1
        exact absurd h1 (by decide)
      | succ n ih =>
        intro sp dn w r1 f1 hI1 h1 hB hsl hE g1 hk1 hk4 hk10 hs1 H locs hM ls hl
        have hlb1 : g1 9 = nI lb := (hk1 9 (by decide) (by decide)).trans hlb
        refine lv_iload_n F.1.1 F.1.2.1 dX7_runText_31 rfl (lv_at hl 0 rfl) ?_
        refine lv_if_eq (tgt := 84) F.1.1 F.1.2.1 dX7_runText_32 (by decide) (fun c32 => ?_) (fun c32 => ?_)
        · have hX : tRun b lb (lb + 1) 0 r f = (dn, r1, f1) := hE.trans (by rw [wI_0 c32]; rfl)
          refine lv_iload_n F.1.1 F.1.2.1 dX7_runText_84 rfl (lv_at hl 1 rfl) ?_
          exact mr_iret F hQ hM (Or.inr ⟨hT, by rw [hX], g1, by rw [hX], hk1, hk4, hk10⟩) (Nat.le_of_ble_eq_true rfl) (Nat.le_of_ble_eq_true rfl) dX7_runText_85
        · have hw := wI_1 c32
          subst hw
          rw [if_pos rfl] at hE
          refine lv_aload_n F.1.1 F.1.2.1 dX7_runText_35 rfl (lv_at hl 2 rfl) ?_
          refine tr_get F hd hM 11 (by decide) q1731 (congrArg (fun z => some (Value.int z)) hs1) dX7_runText_36 ?_
          refine lv_aload_n F.1.1 F.1.2.1 dX7_runText_39 rfl (lv_at hl 2 rfl) ?_
          refine tr_get F hd hM 9 (by decide) q1729 (congrArg (fun z => some (Value.int z)) hlb1) dX7_runText_40 ?_
          refine mr_icmp_geN F (tgt := 84) dX7_runText_43 (by decide) (by omega) (by omega) (fun c43 => ?_) (fun c43 => ?_)
          · have hX : tRun b lb (lb + 1) 0 r f = (dn, r1, f1) := hE.trans (by unfold tRun; rw [if_neg (by omega)]; rfl)
            refine lv_iload_n F.1.1 F.1.2.1 dX7_runText_84 rfl (lv_at hl 1 rfl) ?_
            exact mr_iret F hQ hM (Or.inr ⟨hT, by rw [hX], g1, by rw [hX], hk1, hk4, hk10⟩) (Nat.le_of_ble_eq_true rfl) (Nat.le_of_ble_eq_true rfl) dX7_runText_85
          · have hsp : sp < lb := by omega
            obtain ⟨hb1, hb2⟩ := hB rfl hsp
            obtain ⟨hPw, hPn⟩ := tOk_step hb2
            have hPge := tPart_ge b lb (tSg b lb sp) sp
            have hPle := tPart_le (b := b) (Nat.le_of_lt hsp) (show tSg b lb sp = tSg b lb sp from rfl)
            have hwl := tWl_of hPw
            have hI2 := mInv_do (u := (tPart b lb (tSg b lb sp) sp).2.2.2.2) hI1 hwl
            have hN : true = true → (tPart b lb (tSg b lb sp) sp).1 + 1 < lb → lb < (tPart b lb (tSg b lb sp) sp).1 + 1 + n ∧ tOk b lb n ((tPart b lb (tSg b lb sp) sp).1 + 1) := fun _ q => ⟨by omega, by rcases hPn with q2 | q2; exact absurd q (by omega); exact q2.2⟩
            refine lv_aload_n F.1.1 F.1.2.1 dX7_runText_46 rfl (lv_at hl 2 rfl) ?_
            refine lv_aload_n F.1.1 F.1.2.1 dX7_runText_47 rfl (lv_at hl 2 rfl) ?_
            refine mc_Va (As := []) F hM (ct_sign l hd hs1 hlb1 hl60 (by omega)) (cwV 0 F.1.2.2.2.2 (lw_V q2105 q2107 qs64 q88 q2108) rfl rfl rfl (by decide +kernel) (mRm_ok (by decide) (by decide))) (tM_0 hd) rfl rfl rfl rfl hl.1 rfl (Nat.le_of_ble_eq_true rfl) dX7_runText_48 ⟨Nat.le_of_ble_eq_true rfl, Nat.le_of_ble_eq_true rfl⟩ (fun H locs hM => ?_)
            refine mc_V (As := [_]) F hM (ct_part l hd hs1 hlb1 hl60 (by omega) rfl) (cwV 1 F.1.2.2.2.2 (lw_V q2109 q2111 qs65 q88 q2112) rfl rfl rfl (by decide +kernel) (mRm_ok (by decide) (by decide))) rfl (tM_0 hd) rfl rfl rfl hl.1 rfl (Nat.le_of_ble_eq_true rfl) dX7_runText_51 ⟨Nat.le_of_ble_eq_true rfl, Nat.le_of_ble_eq_true rfl⟩ (fun ρ51 M51 H locs hP51 hM _ => ?_)
            obtain ⟨rfl, hP51⟩ := hP51
            obtain ⟨g2, hM2, hpg⟩ := hP51
            subst hM2
            refine lv_aload_n F.1.1 F.1.2.1 dX7_runText_54 rfl (lv_at hl 2 rfl) ?_
            refine lv_dup F.1.1 F.1.2.1 dX7_runText_55 rfl ?_
            refine tr_get F hd hM 11 (by decide) q1731 (congrArg (fun z => some (Value.int z)) hpg.2.1) dX7_runText_56 ?_
            refine mr_iconst F 1 dX7_runText_59 (by decide +kernel) ?_
            refine mr_iaddN F dX7_runText_60 ?_
            refine tr_put F hd hM 11 (by decide) q1731 rfl rfl rfl (tw_s11 _ _ _) dX7_runText_61 (fun H locs hM => ?_)
            refine lv_aload_n F.1.1 F.1.2.1 dX7_runText_64 rfl (lv_at hl 2 rfl) ?_
            refine mc_Va (As := []) F hM (ct_does l hd hI1 ((va_up_ne _ _ (by decide)).trans hpg.2.2.2.1) ((va_up_ne _ _ (by decide)).trans hpg.2.2.2.2.1) ((va_up_ne _ _ (by decide)).trans hpg.2.2.2.2.2.1) ((va_up_ne _ _ (by decide)).trans hpg.2.2.2.2.2.2) hwl) (cwV 0 F.1.2.2.2.2 (lw_V q2125 q2127 qs68 q88 q2128) rfl rfl rfl (by decide +kernel) (mRm_ok (by decide) (by decide))) (tM_0 hd) rfl rfl rfl rfl hl.1 rfl (Nat.le_of_ble_eq_true rfl) dX7_runText_65 ⟨Nat.le_of_ble_eq_true rfl, Nat.le_of_ble_eq_true rfl⟩ (fun H locs hM => ?_)
            have hka : ∀ k, k < 10 → k ≠ 4 → (va_up g2 11 (nI ((tPart b lb (tSg b lb sp) sp).1 + 1))) k = g k := fun k a b => (va_up_ne _ _ (by omega)).trans ((hpg.1 k (by omega)).trans (hk1 k a b))
            have hk4b : (va_up g2 11 (nI ((tPart b lb (tSg b lb sp) sp).1 + 1))) 4 = nI (mK m0 + 1) := (va_up_ne _ _ (by decide)).trans ((hpg.1 4 (by decide)).trans hk4)
            have hk10b : (va_up g2 11 (nI ((tPart b lb (tSg b lb sp) sp).1 + 1))) 10 = nI 0 := (va_up_ne _ _ (by decide)).trans ((hpg.1 10 (by decide)).trans hk10)
            refine lv_istore_n (lv' := [(2, _), (1, _), (0, _)]) F.1.1 F.1.2.1 dX7_runText_68 rfl hl (by decide) rfl (fun ls hl => ?_)
            refine lv_iload_n F.1.1 F.1.2.1 dX7_runText_69 rfl (lv_at hl 1 rfl) ?_
            refine lv_iload_n F.1.1 F.1.2.1 dX7_runText_70 rfl (lv_at hl 0 rfl) ?_
            refine lv_if_eq (tgt := 78) F.1.1 F.1.2.1 dX7_runText_71 (by decide) (fun c71 => ?_) (fun c71 => ?_)
            · have hD := wI_0 c71
              have hE2 : tRun b lb (lb + 1) 0 r f = (dn, (tDo r1 f1 (tSg b lb sp) (tPart b lb (tSg b lb sp) sp).2.2.1 (tPart b lb (tSg b lb sp) sp).2.2.2.1 (tPart b lb (tSg b lb sp) sp).2.2.2.2).2) := hE.trans (by unfold tRun; rw [if_pos hsp, if_neg (by rw [hD]; decide)]; rfl)
              refine mr_iconst F 0 dX7_runText_78 (by decide +kernel) ?_
              refine mr_iaddN F dX7_runText_79 ?_
              refine lv_istore_n (lv' := [(1, _), (2, _), (0, _)]) F.1.1 F.1.2.1 dX7_runText_80 rfl hl (by decide) rfl (fun ls hl => ?_)
              refine lv_goto (tgt := 31) F.1.1 F.1.2.1 dX7_runText_81 (by decide) ?_
              exact ih ((tPart b lb (tSg b lb sp) sp).1 + 1) dn false _ _ hI2 (by omega) (fun q => Bool.noConfusion q) (by omega) hE2 _ hka hk4b hk10b (va_up_self _ _ _) _ _ hM _ (lv_sub hl [1, 0, 2] (by rw [hD]; rfl))
            · have hD := wI_1 c71
              have hE2 := hE.trans (by unfold tRun; rw [if_pos hsp, if_pos hD])
              refine mr_iconst F 1 dX7_runText_74 (by decide +kernel) ?_
              refine lv_goto (tgt := 79) F.1.1 F.1.2.1 dX7_runText_75 (by decide) ?_
              refine mr_iaddN F dX7_runText_79 ?_
              refine lv_istore_n (lv' := [(1, _), (2, _), (0, _)]) F.1.1 F.1.2.1 dX7_runText_80 rfl hl (by decide) rfl (fun ls hl => ?_)
              refine lv_goto (tgt := 31) F.1.1 F.1.2.1 dX7_runText_81 (by decide) ?_
              exact ih ((tPart b lb (tSg b lb sp) sp).1 + 1) (dn + 1) true _ _ hI2 (by omega) hN (by omega) (hE2.trans (by rw [if_pos rfl]; congr 1; omega)) _ hka hk4b hk10b (va_up_self _ _ _) _ _ hM _ (lv_sub hl [1, 0, 2] (by rw [hD]; rfl))
    have hgg : ∀ k, k < 10 → k ≠ 4 → (va_up (va_up g1 4 (nI (mK m0 + 1))) 11 (nI 0)) k = g k := fun k a b => (va_up_ne _ _ (by omega)).trans ((va_up_ne _ _ b).trans ((hk1 k (by omega)).trans (va_up_ne _ _ (by omega))))
    exact lp (lb + 1) 0 0 true r f hI (by omega) (fun _ _ => ⟨by omega, hT⟩) (by omega) (by rw [if_pos rfl, Nat.zero_add]) _ hgg ((va_up_ne _ _ (by decide)).trans (va_up_self _ _ _)) ((va_up_ne _ _ (by decide)).trans ((va_up_ne _ _ (by decide)).trans ((hk1 10 (by decide)).trans (va_up_self _ _ _)))) (va_up_self _ _ _) _ _ hM _ hl
  · have hT := wI_0 c9
    refine lv_aload_n F.1.1 F.1.2.1 dX7_runText_12 rfl (lv_at hl 0 rfl) ?_
    refine mr_iconst F 1 dX7_runText_13 (by decide +kernel) ?_
    refine mc_Va (As := [_]) F hM (ct_fails l hd ) (cwV 1 F.1.2.2.2.2 (lw_V q1789 q1791 qs34 q88 q1792) rfl rfl rfl (by decide +kernel) (mRm_ok (by decide) (by decide))) (tM_0 hd) rfl rfl rfl rfl hl.1 rfl (Nat.le_of_ble_eq_true rfl) dX7_runText_14 ⟨Nat.le_of_ble_eq_true rfl, Nat.le_of_ble_eq_true rfl⟩ (fun H locs hM => ?_)
    exact mr_iret F hQ hM (Or.inl ⟨hT, rfl, _, rfl, fun k hk => (va_up_ne _ _ (by omega)).trans ((hk1 k (by omega)).trans (va_up_ne _ _ (by omega))), va_up_self _ _ _⟩) (Nat.le_of_ble_eq_true rfl) (Nat.le_of_ble_eq_true rfl) dX7_runText_17
