/-! THE SYSTEM: what can be -/
set_option maxHeartbeats 4000000 in
theorem cs_X1_none_K (l : Launch) {G : mG} {ad : Nat → Nat} {n : Nat} {r : Nat → Int32} {f : Nat → UInt32} {dv : Nat → Int32} {M0 : mM} {q0 q1 q2 d : Nat} {fn : Nat → Option Nat} (hd : sAd n ad) (hn : n ≤ 6) (hS : sAt G ad n r f dv M0) (hq0 : M0 q0 = some (eQ (G.2.1 9) 2 fn)) (f0 : fn 0 = some q1) (f1 : fn 1 = some q2) (e1 : M0 q1 = some (.inr (lamC (G.2.1 (20 + 11)) [.ref (ad 0)]))) (e2 : M0 q2 = some (.inr (lamC (G.2.1 (20 + 12)) [.ref (ad 0), .int (nI d)]))) (hs : r (16 + (4 * d + 3)) = nI 0 ∨ r (16 + (4 * d + 3)) = nI 1) (h1 : d < 4) : mMet l yX1_none (ws_ yX1_none cX1_none 2 (some .boolean)) (mRm 7 0 0) [.ref q0] G (pPre (M0)) (pPost (M0) (some (.int (bI (¬ n = 6 ∧ ¬ r (16 + (4 * d + 3)) = nI 1))))) := by
  refine mMet.of (by decide +kernel) (Nat.le_of_ble_eq_true rfl) fun p e s m args below meth c A Q M hM0 F hnm hQ hM ls hl => ?_
  have hM0 : M0 = M := hM0.symm
  subst hM0
  have hl : lv_has ls 2 [(0, .ref q0)] := hl
  have hb0 : M0 (ad 0) = some (eO 1 (sF0 ad r)) := (hS 0 (by unfold sL; omega)).trans rfl
  refine mr_iconst F 0 dX1_none_0 (by decide +kernel) ?_
  refine lv_istore_n (lv' := [(1, _), (0, _)]) F.1.1 F.1.2.1 dX1_none_1 rfl hl (by decide) rfl (fun ls hl => ?_)
  refine lv_iload_n F.1.1 F.1.2.1 dX1_none_2 rfl (lv_at hl 0 rfl) ?_
  refine lv_aload_n F.1.1 F.1.2.1 dX1_none_3 rfl (lv_at hl 1 rfl) ?_
  refine mr_alenQ F hM 9 hq0 rfl dX1_none_4 ?_
  refine mr_icmp_geN F (tgt := 27) dX1_none_5 (by decide) (by omega) (by omega) (fun c5 => ?_) (fun c5 => ?_)
  · exact absurd c5 (by decide)
  · refine lv_aload_n F.1.1 F.1.2.1 dX1_none_8 rfl (lv_at hl 1 rfl) ?_
    refine lv_iload_n F.1.1 F.1.2.1 dX1_none_9 rfl (lv_at hl 0 rfl) ?_
    refine mr_aald F.1.1 F.1.2.1 F.2.1 hM 9 hq0 rfl (by decide) (by decide) (show va_rf (fn 0) = .ref q1 from congrArg va_rf f0) dX1_none_10 ?_
    refine mc_R1 F hM (k := 11) rfl e1 lo11 rfl (by decide +kernel) q848 (by decide +kernel) (y := yX2_lambda_canMakePack_3) (by decide +kernel) (by decide +kernel) hb0 (ci2 := 1) rfl rfl (bI_01 _) (cs_X2_lambda_canMakePack_3 l hd hn) (sAt.eq hd hS).symm q1335 q1334 qs27 q71 (lam_len (by decide +kernel)) (by decide) hl.1 rfl (Nat.le_of_ble_eq_true rfl) dX1_none_11 (Nat.le_of_ble_eq_true rfl) (Nat.le_of_ble_eq_true rfl) ⟨Nat.le_of_ble_eq_true rfl, Nat.le_of_ble_eq_true rfl⟩ (fun H locs hM => ?_)
    rw [sAt.eq hd hS] at hM
    refine mr_ifeqB F (tgt := 21) dX1_none_16 (by decide) (fun c16 => ?_) (fun c16 => ?_)
    · have hn6 : ¬ n = 6 := c16
      refine lv_iinc (lv' := [(1, _), (0, _)]) F.1.1 F.1.2.1 dX1_none_21 hl (k := 0) rfl (nK_add _ 1) (by decide) rfl (fun ls hl => ?_)
      refine lv_goto (tgt := 2) F.1.1 F.1.2.1 dX1_none_24 (by decide) ?_
      refine lv_iload_n F.1.1 F.1.2.1 dX1_none_2 rfl (lv_at hl 0 rfl) ?_
      refine lv_aload_n F.1.1 F.1.2.1 dX1_none_3 rfl (lv_at hl 1 rfl) ?_
      refine mr_alenQ F hM 9 hq0 rfl dX1_none_4 ?_
      refine mr_icmp_geN F (tgt := 27) dX1_none_5 (by decide) (by omega) (by omega) (fun c5 => ?_) (fun c5 => ?_)
      · exact absurd c5 (by decide)
      · refine lv_aload_n F.1.1 F.1.2.1 dX1_none_8 rfl (lv_at hl 1 rfl) ?_
        refine lv_iload_n F.1.1 F.1.2.1 dX1_none_9 rfl (lv_at hl 0 rfl) ?_
        refine mr_aald F.1.1 F.1.2.1 F.2.1 hM 9 hq0 rfl (by decide) (by decide) (show va_rf (fn (0 + 1)) = .ref q2 from congrArg va_rf f1) dX1_none_10 ?_
        refine mc_R2 F hM (k := 12) rfl e2 lo12 rfl (by decide +kernel) q848 (by decide +kernel) (y := yX2_lambda_canMakePack_4) (by decide +kernel) (by decide +kernel) hb0 (ci2 := 1) rfl rfl hs (cs_X2_lambda_canMakePack_4 l hd hn hs (by omega)) (sAt.eq hd hS).symm q1338 q1337 qs28 q71 (lam_len (by decide +kernel)) (by decide) hl.1 rfl (Nat.le_of_ble_eq_true rfl) dX1_none_11 (Nat.le_of_ble_eq_true rfl) (Nat.le_of_ble_eq_true rfl) ⟨Nat.le_of_ble_eq_true rfl, Nat.le_of_ble_eq_true rfl⟩ (fun H locs hM => ?_)
        rw [sAt.eq hd hS] at hM
        refine lv_if_eq (tgt := 21) F.1.1 F.1.2.1 dX1_none_16 (by decide) (fun c16 => ?_) (fun c16 => ?_)
        · refine lv_iinc (lv' := [(1, _), (0, _)]) F.1.1 F.1.2.1 dX1_none_21 hl (k := 0) rfl (nK_add _ 1) (by decide) rfl (fun ls hl => ?_)
          refine lv_goto (tgt := 2) F.1.1 F.1.2.1 dX1_none_24 (by decide) ?_
          refine lv_iload_n F.1.1 F.1.2.1 dX1_none_2 rfl (lv_at hl 0 rfl) ?_
          refine lv_aload_n F.1.1 F.1.2.1 dX1_none_3 rfl (lv_at hl 1 rfl) ?_
          refine mr_alenQ F hM 9 hq0 rfl dX1_none_4 ?_
          refine mr_icmp_geN F (tgt := 27) dX1_none_5 (by decide) (by omega) (by omega) (fun c5 => ?_) (fun c5 => ?_)
          · have hE : bI (¬ n = 6 ∧ ¬ r (16 + (4 * d + 3)) = nI 1) = nI 1 := bI_t ⟨hn6, by rw [c16]; decide⟩
            refine mr_iconst F 1 dX1_none_27 (by decide +kernel) ?_
            exact mr_zret F hQ (by first | rfl | exact nZ_bI _) hM ⟨by rw [hE], rfl⟩ (Nat.le_of_ble_eq_true rfl) (Nat.le_of_ble_eq_true rfl) dX1_none_28
          · exact absurd (by decide) c5
        · have hE : bI (¬ n = 6 ∧ ¬ r (16 + (4 * d + 3)) = nI 1) = nI 0 := bI_f (fun q => q.2 (hs.resolve_left c16))
          refine mr_iconst F 0 dX1_none_19 (by decide +kernel) ?_
          exact mr_zret F hQ (by first | rfl | exact nZ_bI _) hM ⟨by rw [hE], rfl⟩ (Nat.le_of_ble_eq_true rfl) (Nat.le_of_ble_eq_true rfl) dX1_none_20
    · have hE : bI (¬ n = 6 ∧ ¬ r (16 + (4 * d + 3)) = nI 1) = nI 0 := bI_f (fun q => q.1 c16)
      refine mr_iconst F 0 dX1_none_19 (by decide +kernel) ?_
      exact mr_zret F hQ (by first | rfl | exact nZ_bI _) hM ⟨by rw [hE], rfl⟩ (Nat.le_of_ble_eq_true rfl) (Nat.le_of_ble_eq_true rfl) dX1_none_20
set_option maxHeartbeats 4000000 in
theorem cs_X2_canMount (l : Launch) {G : mG} {ad : Nat → Nat} {n : Nat} {r : Nat → Int32} {f : Nat → UInt32} {dv : Nat → Int32} {M0 : mM} {d k : Nat} (hd : sAd n ad) (hn : n ≤ 6) (h1 : d < 4) (hk : k < 100) : mMet l yX2_canMount (ws_ yX2_canMount cX2_canMount 4 (some .boolean)) (mRm 8 4 9) [.ref (ad 0), .int (nI d), .int (nI k)] G (pPre (sM G ad n r f dv M0)) (pPost (sM G ad n r f dv M0) (some (.int (bI (k < n ∧ r (60 + d) = -1 ∧ dv k = -1))))) := by
  refine mMet.ofN (by decide +kernel) (Nat.le_of_ble_eq_true rfl) fun p e s m args below meth c A Q M hM0 F hnm hQ hM ls hl => ?_
  have hM0 : M = sM G ad n r f dv M0 := hM0
  subst hM0
  have hl : lv_has ls 4 [(0, .ref (ad 0)), (1, .int (nI d)), (2, .int (nI k))] := hl
  refine mr_iconst F 3 dX2_canMount_0 (by decide +kernel) ?_
  refine mr_newQ F hM 9 q809 q810 rfl (by decide) (Nat.le_of_ble_eq_true rfl) (Nat.le_of_ble_eq_true rfl) dX2_canMount_1 (fun q0 H hq0 hM => ?_)
  have hS1 := (sAt.of hd : sAt G ad n r f dv (sM G ad n r f dv M0)).new (e := eQ (G.2.1 9) 3 (fun _ => none)) hq0
  have hO0 := (sAt.of hd : sAt G ad n r f dv (sM G ad n r f dv M0)).out hq0
  have hQ1 := mup_self (sM G ad n r f dv M0) q0 (eQ (G.2.1 9) 3 (fun _ => none))
  have hne0 := fun (a : Nat) (x : mE) (h : (sM G ad n r f dv M0) a = some x) => kp_ne hq0 h
  have hU1 := fun (a : Nat) (x : mE) (h : (sM G ad n r f dv M0) a = some x) => kp_new (e := eQ (G.2.1 9) 3 (fun _ => none)) hq0 h
  refine lv_dup F.1.1 F.1.2.1 dX2_canMount_4 rfl ?_
  refine mr_iconst F 0 dX2_canMount_5 (by decide +kernel) ?_
  refine lv_aload_n F.1.1 F.1.2.1 dX2_canMount_6 rfl (lv_at hl 0 rfl) ?_
  refine lv_iload_n F.1.1 F.1.2.1 dX2_canMount_7 rfl (lv_at hl 2 rfl) ?_
  refine mr_lam F hM 1 rfl hnm (tys := #[.object "DiskPacks$State", .int]) (by decide +kernel) (vals := [.ref (ad 0), .int (nI k)]) rfl rfl (lf2 rfl rfl) rfl (Nat.le_of_ble_eq_true rfl) hl.1 (Nat.le_of_ble_eq_true rfl) (Nat.le_of_ble_eq_true rfl) (Nat.le_of_ble_eq_true rfl) dX2_canMount_8 (fun q1 H hq1 _ hM => ?_)
  have hS2 := hS1.new (e := Sum.inr (lamC (G.2.1 (20 + 1)) [.ref (ad 0), .int (nI k)])) hq1
  have hn1 := (kp_ne hq1 hQ1).symm
  have hQ2 := kp_new (e := Sum.inr (lamC (G.2.1 (20 + 1)) [.ref (ad 0), .int (nI k)])) hq1 hQ1
  have hU2 := fun (a : Nat) (x : mE) (h : (sM G ad n r f dv M0) a = some x) => kp_new (e := Sum.inr (lamC (G.2.1 (20 + 1)) [.ref (ad 0), .int (nI k)])) hq1 (hU1 a x h)
  have hL1 := mup_self (mup (sM G ad n r f dv M0) q0 (eQ (G.2.1 9) 3 (fun _ => none))) q1 (Sum.inr (lamC (G.2.1 (20 + 1)) [.ref (ad 0), .int (nI k)]))
  refine mr_aastL F hM 9 hQ2 rfl (k := 1) rfl hL1 (by decide) (by decide) dX2_canMount_13 (fun H locs hM => ?_)
  have hS3 := hS2.put (e := eQ (G.2.1 9) 3 (va_up (fun _ => none) 0 (some q1))) hO0
  have hQ3 := mup_self (mup (mup (sM G ad n r f dv M0) q0 (eQ (G.2.1 9) 3 (fun _ => none))) q1 (Sum.inr (lamC (G.2.1 (20 + 1)) [.ref (ad 0), .int (nI k)]))) q0 (eQ (G.2.1 9) 3 (va_up (fun _ => none) 0 (some q1)))
  have hL1 := kp_put (e := eQ (G.2.1 9) 3 (va_up (fun _ => none) 0 (some q1))) hn1 hL1
  have hU3 := fun (a : Nat) (x : mE) (h : (sM G ad n r f dv M0) a = some x) => kp_put (e := eQ (G.2.1 9) 3 (va_up (fun _ => none) 0 (some q1))) (hne0 a x h) (hU2 a x h)
  refine lv_dup F.1.1 F.1.2.1 dX2_canMount_14 rfl ?_
  refine mr_iconst F 1 dX2_canMount_15 (by decide +kernel) ?_
  refine lv_aload_n F.1.1 F.1.2.1 dX2_canMount_16 rfl (lv_at hl 0 rfl) ?_
  refine lv_iload_n F.1.1 F.1.2.1 dX2_canMount_17 rfl (lv_at hl 1 rfl) ?_
  refine mr_lam F hM 2 rfl hnm (tys := #[.object "DiskPacks$State", .int]) (by decide +kernel) (vals := [.ref (ad 0), .int (nI d)]) rfl rfl (lf2 rfl rfl) rfl (Nat.le_of_ble_eq_true rfl) hl.1 (Nat.le_of_ble_eq_true rfl) (Nat.le_of_ble_eq_true rfl) (Nat.le_of_ble_eq_true rfl) dX2_canMount_18 (fun q2 H hq2 _ hM => ?_)
  have hS4 := hS3.new (e := Sum.inr (lamC (G.2.1 (20 + 2)) [.ref (ad 0), .int (nI d)])) hq2
  have hn2 := (kp_ne hq2 hQ3).symm
  have hQ4 := kp_new (e := Sum.inr (lamC (G.2.1 (20 + 2)) [.ref (ad 0), .int (nI d)])) hq2 hQ3
  have hL1 := kp_new (e := Sum.inr (lamC (G.2.1 (20 + 2)) [.ref (ad 0), .int (nI d)])) hq2 hL1
  have hU4 := fun (a : Nat) (x : mE) (h : (sM G ad n r f dv M0) a = some x) => kp_new (e := Sum.inr (lamC (G.2.1 (20 + 2)) [.ref (ad 0), .int (nI d)])) hq2 (hU3 a x h)
  have hL2 := mup_self (mup (mup (mup (sM G ad n r f dv M0) q0 (eQ (G.2.1 9) 3 (fun _ => none))) q1 (Sum.inr (lamC (G.2.1 (20 + 1)) [.ref (ad 0), .int (nI k)]))) q0 (eQ (G.2.1 9) 3 (va_up (fun _ => none) 0 (some q1)))) q2 (Sum.inr (lamC (G.2.1 (20 + 2)) [.ref (ad 0), .int (nI d)]))
  refine mr_aastL F hM 9 hQ4 rfl (k := 2) rfl hL2 (by decide) (by decide) dX2_canMount_23 (fun H locs hM => ?_)
  have hS5 := hS4.put (e := eQ (G.2.1 9) 3 (va_up (va_up (fun _ => none) 0 (some q1)) 1 (some q2))) hO0
  have hQ5 := mup_self (mup (mup (mup (mup (sM G ad n r f dv M0) q0 (eQ (G.2.1 9) 3 (fun _ => none))) q1 (Sum.inr (lamC (G.2.1 (20 + 1)) [.ref (ad 0), .int (nI k)]))) q0 (eQ (G.2.1 9) 3 (va_up (fun _ => none) 0 (some q1)))) q2 (Sum.inr (lamC (G.2.1 (20 + 2)) [.ref (ad 0), .int (nI d)]))) q0 (eQ (G.2.1 9) 3 (va_up (va_up (fun _ => none) 0 (some q1)) 1 (some q2)))
  have hL1 := kp_put (e := eQ (G.2.1 9) 3 (va_up (va_up (fun _ => none) 0 (some q1)) 1 (some q2))) hn1 hL1
  have hL2 := kp_put (e := eQ (G.2.1 9) 3 (va_up (va_up (fun _ => none) 0 (some q1)) 1 (some q2))) hn2 hL2
  have hU5 := fun (a : Nat) (x : mE) (h : (sM G ad n r f dv M0) a = some x) => kp_put (e := eQ (G.2.1 9) 3 (va_up (va_up (fun _ => none) 0 (some q1)) 1 (some q2))) (hne0 a x h) (hU4 a x h)
  refine lv_dup F.1.1 F.1.2.1 dX2_canMount_24 rfl ?_
  refine mr_iconst F 2 dX2_canMount_25 (by decide +kernel) ?_
  refine lv_aload_n F.1.1 F.1.2.1 dX2_canMount_26 rfl (lv_at hl 0 rfl) ?_
  refine lv_iload_n F.1.1 F.1.2.1 dX2_canMount_27 rfl (lv_at hl 2 rfl) ?_
  refine mr_lam F hM 3 rfl hnm (tys := #[.object "DiskPacks$State", .int]) (by decide +kernel) (vals := [.ref (ad 0), .int (nI k)]) rfl rfl (lf2 rfl rfl) rfl (Nat.le_of_ble_eq_true rfl) hl.1 (Nat.le_of_ble_eq_true rfl) (Nat.le_of_ble_eq_true rfl) (Nat.le_of_ble_eq_true rfl) dX2_canMount_28 (fun q3 H hq3 _ hM => ?_)
  have hS6 := hS5.new (e := Sum.inr (lamC (G.2.1 (20 + 3)) [.ref (ad 0), .int (nI k)])) hq3
  have hn3 := (kp_ne hq3 hQ5).symm
  have hQ6 := kp_new (e := Sum.inr (lamC (G.2.1 (20 + 3)) [.ref (ad 0), .int (nI k)])) hq3 hQ5
  have hL1 := kp_new (e := Sum.inr (lamC (G.2.1 (20 + 3)) [.ref (ad 0), .int (nI k)])) hq3 hL1
  have hL2 := kp_new (e := Sum.inr (lamC (G.2.1 (20 + 3)) [.ref (ad 0), .int (nI k)])) hq3 hL2
  have hU6 := fun (a : Nat) (x : mE) (h : (sM G ad n r f dv M0) a = some x) => kp_new (e := Sum.inr (lamC (G.2.1 (20 + 3)) [.ref (ad 0), .int (nI k)])) hq3 (hU5 a x h)
  have hL3 := mup_self (mup (mup (mup (mup (mup (sM G ad n r f dv M0) q0 (eQ (G.2.1 9) 3 (fun _ => none))) q1 (Sum.inr (lamC (G.2.1 (20 + 1)) [.ref (ad 0), .int (nI k)]))) q0 (eQ (G.2.1 9) 3 (va_up (fun _ => none) 0 (some q1)))) q2 (Sum.inr (lamC (G.2.1 (20 + 2)) [.ref (ad 0), .int (nI d)]))) q0 (eQ (G.2.1 9) 3 (va_up (va_up (fun _ => none) 0 (some q1)) 1 (some q2)))) q3 (Sum.inr (lamC (G.2.1 (20 + 3)) [.ref (ad 0), .int (nI k)]))
  refine mr_aastL F hM 9 hQ6 rfl (k := 3) rfl hL3 (by decide) (by decide) dX2_canMount_33 (fun H locs hM => ?_)
  have hS7 := hS6.put (e := eQ (G.2.1 9) 3 (va_up (va_up (va_up (fun _ => none) 0 (some q1)) 1 (some q2)) 2 (some q3))) hO0
  have hQ7 := mup_self (mup (mup (mup (mup (mup (mup (sM G ad n r f dv M0) q0 (eQ (G.2.1 9) 3 (fun _ => none))) q1 (Sum.inr (lamC (G.2.1 (20 + 1)) [.ref (ad 0), .int (nI k)]))) q0 (eQ (G.2.1 9) 3 (va_up (fun _ => none) 0 (some q1)))) q2 (Sum.inr (lamC (G.2.1 (20 + 2)) [.ref (ad 0), .int (nI d)]))) q0 (eQ (G.2.1 9) 3 (va_up (va_up (fun _ => none) 0 (some q1)) 1 (some q2)))) q3 (Sum.inr (lamC (G.2.1 (20 + 3)) [.ref (ad 0), .int (nI k)]))) q0 (eQ (G.2.1 9) 3 (va_up (va_up (va_up (fun _ => none) 0 (some q1)) 1 (some q2)) 2 (some q3)))
  have hL1 := kp_put (e := eQ (G.2.1 9) 3 (va_up (va_up (va_up (fun _ => none) 0 (some q1)) 1 (some q2)) 2 (some q3))) hn1 hL1
  have hL2 := kp_put (e := eQ (G.2.1 9) 3 (va_up (va_up (va_up (fun _ => none) 0 (some q1)) 1 (some q2)) 2 (some q3))) hn2 hL2
  have hL3 := kp_put (e := eQ (G.2.1 9) 3 (va_up (va_up (va_up (fun _ => none) 0 (some q1)) 1 (some q2)) 2 (some q3))) hn3 hL3
  have hU7 := fun (a : Nat) (x : mE) (h : (sM G ad n r f dv M0) a = some x) => kp_put (e := eQ (G.2.1 9) 3 (va_up (va_up (va_up (fun _ => none) 0 (some q1)) 1 (some q2)) 2 (some q3))) (hne0 a x h) (hU6 a x h)
  refine lv_astore_n (lv' := [(3, _), (0, _), (1, _), (2, _)]) F.1.1 F.1.2.1 dX2_canMount_34 rfl hl (by decide) rfl (fun ls hl => ?_)
  refine lv_aload_n F.1.1 F.1.2.1 dX2_canMount_35 rfl (lv_at hl 0 rfl) ?_
  refine mc_SNa (As := [_]) F hM (cs_X1_none_M l hd hn hS7 hQ7 rfl rfl rfl hL1 hL2 hL3 (by omega) (by omega)) ⟨va_cnB 1 F.1.2.2.2.2 (lw_meth q846) rfl rfl rfl (mN_w F q844 rfl) (F.1.2.2.2.2 _ q70) (by decide +kernel) (mRm_ok (by decide) (by decide)), F.1.2.2.2.2 _ q845, trivial⟩ rfl rfl hl.1 rfl (Nat.le_of_ble_eq_true rfl) dX2_canMount_36 ⟨Nat.le_of_ble_eq_true rfl, Nat.le_of_ble_eq_true rfl⟩ (fun H locs hM => ?_)
  have hM := hM.sub (M' := sM G ad n r f dv M0) hU7
  exact mr_zret F hQ (nZ_bI _) hM ⟨rfl, rfl⟩ (Nat.le_of_ble_eq_true rfl) (Nat.le_of_ble_eq_true rfl) dX2_canMount_39
set_option maxHeartbeats 4000000 in
theorem cs_X2_canMakePack (l : Launch) {G : mG} {ad : Nat → Nat} {n : Nat} {r : Nat → Int32} {f : Nat → UInt32} {dv : Nat → Int32} {M0 : mM} {d : Nat} (hd : sAd n ad) (hn : n ≤ 6) (hs : r (16 + (4 * d + 3)) = nI 0 ∨ r (16 + (4 * d + 3)) = nI 1) (h1 : d < 4) : mMet l yX2_canMakePack (ws_ yX2_canMakePack cX2_canMakePack 3 (some .boolean)) (mRm 8 3 5) [.ref (ad 0), .int (nI d)] G (pPre (sM G ad n r f dv M0)) (pPost (sM G ad n r f dv M0) (some (.int (bI (¬ n = 6 ∧ ¬ r (16 + (4 * d + 3)) = nI 1))))) := by
  refine mMet.ofN (by decide +kernel) (Nat.le_of_ble_eq_true rfl) fun p e s m args below meth c A Q M hM0 F hnm hQ hM ls hl => ?_
  have hM0 : M = sM G ad n r f dv M0 := hM0
  subst hM0
  have hl : lv_has ls 3 [(0, .ref (ad 0)), (1, .int (nI d))] := hl
  refine mr_iconst F 2 dX2_canMakePack_0 (by decide +kernel) ?_
  refine mr_newQ F hM 9 q809 q810 rfl (by decide) (Nat.le_of_ble_eq_true rfl) (Nat.le_of_ble_eq_true rfl) dX2_canMakePack_1 (fun q0 H hq0 hM => ?_)
  have hS1 := (sAt.of hd : sAt G ad n r f dv (sM G ad n r f dv M0)).new (e := eQ (G.2.1 9) 2 (fun _ => none)) hq0
  have hO0 := (sAt.of hd : sAt G ad n r f dv (sM G ad n r f dv M0)).out hq0
  have hQ1 := mup_self (sM G ad n r f dv M0) q0 (eQ (G.2.1 9) 2 (fun _ => none))
  have hne0 := fun (a : Nat) (x : mE) (h : (sM G ad n r f dv M0) a = some x) => kp_ne hq0 h
  have hU1 := fun (a : Nat) (x : mE) (h : (sM G ad n r f dv M0) a = some x) => kp_new (e := eQ (G.2.1 9) 2 (fun _ => none)) hq0 h
  refine lv_dup F.1.1 F.1.2.1 dX2_canMakePack_4 rfl ?_
  refine mr_iconst F 0 dX2_canMakePack_5 (by decide +kernel) ?_
  refine lv_aload_n F.1.1 F.1.2.1 dX2_canMakePack_6 rfl (lv_at hl 0 rfl) ?_
  refine mr_lam F hM 11 rfl hnm (tys := #[.object "DiskPacks$State"]) (by decide +kernel) (vals := [.ref (ad 0)]) rfl rfl (lf1 rfl) rfl (Nat.le_of_ble_eq_true rfl) hl.1 (Nat.le_of_ble_eq_true rfl) (Nat.le_of_ble_eq_true rfl) (Nat.le_of_ble_eq_true rfl) dX2_canMakePack_7 (fun q1 H hq1 _ hM => ?_)
  have hS2 := hS1.new (e := Sum.inr (lamC (G.2.1 (20 + 11)) [.ref (ad 0)])) hq1
  have hn1 := (kp_ne hq1 hQ1).symm
  have hQ2 := kp_new (e := Sum.inr (lamC (G.2.1 (20 + 11)) [.ref (ad 0)])) hq1 hQ1
  have hU2 := fun (a : Nat) (x : mE) (h : (sM G ad n r f dv M0) a = some x) => kp_new (e := Sum.inr (lamC (G.2.1 (20 + 11)) [.ref (ad 0)])) hq1 (hU1 a x h)
  have hL1 := mup_self (mup (sM G ad n r f dv M0) q0 (eQ (G.2.1 9) 2 (fun _ => none))) q1 (Sum.inr (lamC (G.2.1 (20 + 11)) [.ref (ad 0)]))
  refine mr_aastL F hM 9 hQ2 rfl (k := 11) rfl hL1 (by decide) (by decide) dX2_canMakePack_12 (fun H locs hM => ?_)
  have hS3 := hS2.put (e := eQ (G.2.1 9) 2 (va_up (fun _ => none) 0 (some q1))) hO0
  have hQ3 := mup_self (mup (mup (sM G ad n r f dv M0) q0 (eQ (G.2.1 9) 2 (fun _ => none))) q1 (Sum.inr (lamC (G.2.1 (20 + 11)) [.ref (ad 0)]))) q0 (eQ (G.2.1 9) 2 (va_up (fun _ => none) 0 (some q1)))
  have hL1 := kp_put (e := eQ (G.2.1 9) 2 (va_up (fun _ => none) 0 (some q1))) hn1 hL1
  have hU3 := fun (a : Nat) (x : mE) (h : (sM G ad n r f dv M0) a = some x) => kp_put (e := eQ (G.2.1 9) 2 (va_up (fun _ => none) 0 (some q1))) (hne0 a x h) (hU2 a x h)
  refine lv_dup F.1.1 F.1.2.1 dX2_canMakePack_13 rfl ?_
  refine mr_iconst F 1 dX2_canMakePack_14 (by decide +kernel) ?_
  refine lv_aload_n F.1.1 F.1.2.1 dX2_canMakePack_15 rfl (lv_at hl 0 rfl) ?_
  refine lv_iload_n F.1.1 F.1.2.1 dX2_canMakePack_16 rfl (lv_at hl 1 rfl) ?_
  refine mr_lam F hM 12 rfl hnm (tys := #[.object "DiskPacks$State", .int]) (by decide +kernel) (vals := [.ref (ad 0), .int (nI d)]) rfl rfl (lf2 rfl rfl) rfl (Nat.le_of_ble_eq_true rfl) hl.1 (Nat.le_of_ble_eq_true rfl) (Nat.le_of_ble_eq_true rfl) (Nat.le_of_ble_eq_true rfl) dX2_canMakePack_17 (fun q2 H hq2 _ hM => ?_)
  have hS4 := hS3.new (e := Sum.inr (lamC (G.2.1 (20 + 12)) [.ref (ad 0), .int (nI d)])) hq2
  have hn2 := (kp_ne hq2 hQ3).symm
  have hQ4 := kp_new (e := Sum.inr (lamC (G.2.1 (20 + 12)) [.ref (ad 0), .int (nI d)])) hq2 hQ3
  have hL1 := kp_new (e := Sum.inr (lamC (G.2.1 (20 + 12)) [.ref (ad 0), .int (nI d)])) hq2 hL1
  have hU4 := fun (a : Nat) (x : mE) (h : (sM G ad n r f dv M0) a = some x) => kp_new (e := Sum.inr (lamC (G.2.1 (20 + 12)) [.ref (ad 0), .int (nI d)])) hq2 (hU3 a x h)
  have hL2 := mup_self (mup (mup (mup (sM G ad n r f dv M0) q0 (eQ (G.2.1 9) 2 (fun _ => none))) q1 (Sum.inr (lamC (G.2.1 (20 + 11)) [.ref (ad 0)]))) q0 (eQ (G.2.1 9) 2 (va_up (fun _ => none) 0 (some q1)))) q2 (Sum.inr (lamC (G.2.1 (20 + 12)) [.ref (ad 0), .int (nI d)]))
  refine mr_aastL F hM 9 hQ4 rfl (k := 12) rfl hL2 (by decide) (by decide) dX2_canMakePack_22 (fun H locs hM => ?_)
  have hS5 := hS4.put (e := eQ (G.2.1 9) 2 (va_up (va_up (fun _ => none) 0 (some q1)) 1 (some q2))) hO0
  have hQ5 := mup_self (mup (mup (mup (mup (sM G ad n r f dv M0) q0 (eQ (G.2.1 9) 2 (fun _ => none))) q1 (Sum.inr (lamC (G.2.1 (20 + 11)) [.ref (ad 0)]))) q0 (eQ (G.2.1 9) 2 (va_up (fun _ => none) 0 (some q1)))) q2 (Sum.inr (lamC (G.2.1 (20 + 12)) [.ref (ad 0), .int (nI d)]))) q0 (eQ (G.2.1 9) 2 (va_up (va_up (fun _ => none) 0 (some q1)) 1 (some q2)))
  have hL1 := kp_put (e := eQ (G.2.1 9) 2 (va_up (va_up (fun _ => none) 0 (some q1)) 1 (some q2))) hn1 hL1
  have hL2 := kp_put (e := eQ (G.2.1 9) 2 (va_up (va_up (fun _ => none) 0 (some q1)) 1 (some q2))) hn2 hL2
  have hU5 := fun (a : Nat) (x : mE) (h : (sM G ad n r f dv M0) a = some x) => kp_put (e := eQ (G.2.1 9) 2 (va_up (va_up (fun _ => none) 0 (some q1)) 1 (some q2))) (hne0 a x h) (hU4 a x h)
  refine lv_astore_n (lv' := [(2, _), (0, _), (1, _)]) F.1.1 F.1.2.1 dX2_canMakePack_23 rfl hl (by decide) rfl (fun ls hl => ?_)
  refine lv_aload_n F.1.1 F.1.2.1 dX2_canMakePack_24 rfl (lv_at hl 0 rfl) ?_
  refine mc_SNa (As := [_]) F hM (cs_X1_none_K l hd hn hS5 hQ5 rfl rfl hL1 hL2 hs (by omega)) ⟨va_cnB 1 F.1.2.2.2.2 (lw_meth q846) rfl rfl rfl (mN_w F q844 rfl) (F.1.2.2.2.2 _ q70) (by decide +kernel) (mRm_ok (by decide) (by decide)), F.1.2.2.2.2 _ q845, trivial⟩ rfl rfl hl.1 rfl (Nat.le_of_ble_eq_true rfl) dX2_canMakePack_25 ⟨Nat.le_of_ble_eq_true rfl, Nat.le_of_ble_eq_true rfl⟩ (fun H locs hM => ?_)
  have hM := hM.sub (M' := sM G ad n r f dv M0) hU5
  exact mr_zret F hQ (nZ_bI _) hM ⟨rfl, rfl⟩ (Nat.le_of_ble_eq_true rfl) (Nat.le_of_ble_eq_true rfl) dX2_canMakePack_28
set_option maxHeartbeats 4000000 in
theorem cs_X2_mount_ok (l : Launch) {G : mG} {ad : Nat → Nat} {n : Nat} {r : Nat → Int32} {f : Nat → UInt32} {dv : Nat → Int32} {M0 : mM} {d k : Nat} (hd : sAd n ad) (hn : n ≤ 6) (h1 : d < 4) (hk : k < n) (hp : r (60 + d) = -1) (hv : dv k = -1) : mMet l yX2_mount (ws_ yX2_mount cX2_mount 4 (some .boolean)) (mRm 9 4 9) [.ref (ad 0), .int (nI d), .int (nI k)] G (pPre (sM G ad n r f dv M0)) (pPost (sM G ad n (va_up r (60 + d) (nI k)) f (va_up dv k (nI d)) M0) (some (.int (nI 1)))) := by
  refine mMet.of (by decide +kernel) (Nat.le_of_ble_eq_true rfl) fun p e s m args below meth c A Q M hM0 F hnm hQ hM ls hl => ?_
  have hM0 : M = sM G ad n r f dv M0 := hM0
  subst hM0
  have hl : lv_has ls 4 [(0, .ref (ad 0)), (1, .int (nI d)), (2, .int (nI k))] := hl
  refine lv_aload_n F.1.1 F.1.2.1 dX2_mount_0 rfl (lv_at hl 0 rfl) ?_
  refine lv_iload_n F.1.1 F.1.2.1 dX2_mount_1 rfl (lv_at hl 1 rfl) ?_
  refine lv_iload_n F.1.1 F.1.2.1 dX2_mount_2 rfl (lv_at hl 2 rfl) ?_
  refine mc_Va (As := [_, _]) F hM (cs_X2_canMount l hd hn (by omega) (by omega)) (cwV 2 F.1.2.2.2.2 (lw_V q805 q806 q807 q71 q808) rfl rfl rfl (by decide +kernel) (mRm_ok (by decide) (by decide))) (sM_0 hd) rfl rfl rfl rfl hl.1 rfl (Nat.le_of_ble_eq_true rfl) dX2_mount_3 ⟨Nat.le_of_ble_eq_true rfl, Nat.le_of_ble_eq_true rfl⟩ (fun H locs hM => ?_)
  refine lv_istore_n (lv' := [(3, _), (0, _), (1, _), (2, _)]) F.1.1 F.1.2.1 dX2_mount_6 rfl hl (by decide) rfl (fun ls hl => ?_)
  refine lv_iload_n F.1.1 F.1.2.1 dX2_mount_7 rfl (lv_at hl 0 rfl) ?_
  refine mr_ifeqB F (tgt := 38) dX2_mount_8 (by decide) (fun c8 => ?_) (fun c8 => ?_)
  · exact absurd ⟨hk, hp, hv⟩ c8
  · refine lv_aload_n F.1.1 F.1.2.1 dX2_mount_11 rfl (lv_at hl 1 rfl) ?_
    refine cg1 F hM (sM_0 hd) 0 (by decide) q306 (fun x h => h) rfl dX2_mount_12 ?_
    refine lv_iload_n F.1.1 F.1.2.1 dX2_mount_15 rfl (lv_at hl 2 rfl) ?_
    refine sr_ld1 F hd hM (by omega) dX2_mount_16 ?_
    refine lv_iload_n F.1.1 F.1.2.1 dX2_mount_17 rfl (lv_at hl 3 rfl) ?_
    refine cp2 F hM (sM_D hd (by omega)) 6 (by decide) q289 (fun x h => h) rfl rfl rfl (Nat.le_of_ble_eq_true rfl) dX2_mount_18 (fun H locs hM => ?_)
    rw [su_D6 hd hn (by omega) rfl] at hM
    refine lv_aload_n F.1.1 F.1.2.1 dX2_mount_21 rfl (lv_at hl 1 rfl) ?_
    refine cg1 F hM (sM_0 hd) 1 (by decide) q308 (fun x h => h) rfl dX2_mount_22 ?_
    refine lv_iload_n F.1.1 F.1.2.1 dX2_mount_25 rfl (lv_at hl 3 rfl) ?_
    refine mc_Fa (As := [_]) F hM (cs_J2_get l hd hn (by omega)) (va_cwF 1 F.1.2.2.2.2 (lw_F q827 q830 q832 q74 q834) rfl rfl rfl (mFw F (by decide) q833 q831 q407) (by decide +kernel) (mRm_ok (by decide) (by decide))) (sM_2 hd) rfl rfl (F.2.1.1 9 _ rfl).2 rfl rfl hl.1 rfl (Nat.le_of_ble_eq_true rfl) dX2_mount_26 ⟨Nat.le_of_ble_eq_true rfl, Nat.le_of_ble_eq_true rfl⟩ (fun H locs hM => ?_)
    refine mr_castS F hM (sM_P hd hn (by omega)) (ci := 6) rfl q843 dX2_mount_31 ?_
    refine lv_iload_n F.1.1 F.1.2.1 dX2_mount_34 rfl (lv_at hl 2 rfl) ?_
    refine cp6 F hM (sM_P hd hn (by omega)) 2 (by decide) q1132 (fun x h => h) rfl rfl rfl (Nat.le_of_ble_eq_true rfl) dX2_mount_35 (fun H locs hM => ?_)
    rw [su_P2 hd hn (by omega)] at hM
    refine lv_iload_n F.1.1 F.1.2.1 dX2_mount_38 rfl (lv_at hl 0 rfl) ?_
    exact mr_zret F hQ (nZ_bI _) hM ⟨by rw [bI_t ⟨hk, hp, hv⟩] <;> rfl, rfl⟩ (Nat.le_of_ble_eq_true rfl) (Nat.le_of_ble_eq_true rfl) dX2_mount_39
set_option maxHeartbeats 4000000 in
theorem cs_X2_mount_no (l : Launch) {G : mG} {ad : Nat → Nat} {n : Nat} {r : Nat → Int32} {f : Nat → UInt32} {dv : Nat → Int32} {M0 : mM} {d k : Nat} (hd : sAd n ad) (hn : n ≤ 6) (h1 : d < 4) (hk : k < 100) (hno : ¬ (k < n ∧ r (60 + d) = -1 ∧ dv k = -1)) : mMet l yX2_mount (ws_ yX2_mount cX2_mount 4 (some .boolean)) (mRm 9 4 9) [.ref (ad 0), .int (nI d), .int (nI k)] G (pPre (sM G ad n r f dv M0)) (pPost (sM G ad n r f dv M0) (some (.int (nI 0)))) := by
  refine mMet.of (by decide +kernel) (Nat.le_of_ble_eq_true rfl) fun p e s m args below meth c A Q M hM0 F hnm hQ hM ls hl => ?_
  have hM0 : M = sM G ad n r f dv M0 := hM0
  subst hM0
  have hl : lv_has ls 4 [(0, .ref (ad 0)), (1, .int (nI d)), (2, .int (nI k))] := hl
  refine lv_aload_n F.1.1 F.1.2.1 dX2_mount_0 rfl (lv_at hl 0 rfl) ?_
  refine lv_iload_n F.1.1 F.1.2.1 dX2_mount_1 rfl (lv_at hl 1 rfl) ?_
  refine lv_iload_n F.1.1 F.1.2.1 dX2_mount_2 rfl (lv_at hl 2 rfl) ?_
  refine mc_Va (As := [_, _]) F hM (cs_X2_canMount l hd hn (by omega) (by omega)) (cwV 2 F.1.2.2.2.2 (lw_V q805 q806 q807 q71 q808) rfl rfl rfl (by decide +kernel) (mRm_ok (by decide) (by decide))) (sM_0 hd) rfl rfl rfl rfl hl.1 rfl (Nat.le_of_ble_eq_true rfl) dX2_mount_3 ⟨Nat.le_of_ble_eq_true rfl, Nat.le_of_ble_eq_true rfl⟩ (fun H locs hM => ?_)
  refine lv_istore_n (lv' := [(3, _), (0, _), (1, _), (2, _)]) F.1.1 F.1.2.1 dX2_mount_6 rfl hl (by decide) rfl (fun ls hl => ?_)
  refine lv_iload_n F.1.1 F.1.2.1 dX2_mount_7 rfl (lv_at hl 0 rfl) ?_
  refine mr_ifeqB F (tgt := 38) dX2_mount_8 (by decide) (fun c8 => ?_) (fun c8 => ?_)
  · refine lv_iload_n F.1.1 F.1.2.1 dX2_mount_38 rfl (lv_at hl 0 rfl) ?_
    exact mr_zret F hQ (nZ_bI _) hM ⟨by rw [bI_f hno] <;> rfl, rfl⟩ (Nat.le_of_ble_eq_true rfl) (Nat.le_of_ble_eq_true rfl) dX2_mount_39
  · exact absurd c8 hno
