/-! THE TEXT READER: carrying out -/
set_option maxHeartbeats 4000000 in
theorem cs_X10_carryOut (l : Launch) {G : mG} {M0 : mM} {ad : Nat → Nat} {n : Nat} {r : Nat → Int32} {f : Nat → UInt32} {dv : Nat → Int32} {Mb : mM} {rd eb x k nb : Nat} {v0 v1 : Int32} {b t : Nat → Int32} {fn : Nat → Option Nat} (hW : M0 = sM G ad n r f dv Mb) (hz : zOk ad n r f dv) (hb : rTx b t nb) (hnb : nb ≤ 60) (h_rd0 : Mb rd = some (eO 8 [.int v0, .int v1, .ref eb, .int (nI k), .ref x])) (h_eb0 : Mb eb = some (eQ (G.2.1 8) 60 fn)) (hk61 : k ≤ 61) (o_rd : ∀ i, sL n i → ad i ≠ rd) (o_eb : ∀ i, sL n i → ad i ≠ eb) (hO : ∀ i, i < k → rPos b nb i < nb ∧ (tPart b nb (tSg b nb (rPos b nb i)) (rPos b nb i)).2.1 = true ∧ ∃ o, fn i = some o ∧ Mb o = some (rOa G b nb (rPos b nb i)) ∧ ∀ j, sL n j → ad j ≠ o) (hend : ¬ rPos b nb k < nb) : mMet l yX10_carryOut (ws_ yX10_carryOut cX10_carryOut 3 (some .int)) (mRm 80 244 549) [.ref rd, .ref (ad 0)] G (pPre M0) (fun _ ρ M1 => ∃ dv2, ρ = some (.int (nI (tRun b nb (nb + 1) 0 r f).1)) ∧ zOk ad n (tRun b nb (nb + 1) 0 r f).2.1 (tRun b nb (nb + 1) 0 r f).2.2 dv2 ∧ M1 = sM G ad n (tRun b nb (nb + 1) 0 r f).2.1 (tRun b nb (nb + 1) 0 r f).2.2 dv2 Mb) := by
  refine mMet.of (by decide +kernel) (Nat.le_of_ble_eq_true rfl) fun p e s m args below meth c A Q M hM0 F hnm hQ hM ls hl => ?_
  have hM0 : M0 = M := hM0.symm
  subst hM0
  have hl : lv_has ls 3 [(0, .ref rd), (1, .ref (ad 0))] := hl
  rw [hW] at hM
  refine mr_iconst F 0 dX10_carryOut_0 (by decide +kernel) ?_
  refine lv_istore_n (lv' := [(2, _), (0, _), (1, _)]) F.1.1 F.1.2.1 dX10_carryOut_1 rfl hl (by decide) rfl (fun ls hl => ?_)
  have lp : ∀ j i : Nat, ∀ (r1 : Nat → Int32) (f1 : Nat → UInt32) (dv1 : Nat → Int32), i + j = k → zOk ad n r1 f1 dv1 → (tRun b nb (nb + 1) 0 r f) = (i + (tRun b nb (nb + 1 - i) (rPos b nb i) r1 f1).1, (tRun b nb (nb + 1 - i) (rPos b nb i) r1 f1).2) → ∀ (H : Heap) (locs : List Loc), mWd G A s.heap (sM G ad n r1 f1 dv1 Mb) H locs → ∀ ls : Array Slot, lv_has ls 3 [(2, .int (nI i)), (0, .ref rd), (1, .ref (ad 0))] → W p l e (mRm 80 244 549) s m args below meth c H locs (4 * i) (9 * i) Q (F0 m 2 ls []) := by
    intro j
    induction j with
    | zero =>
      intro i r1 f1 dv1 hi hz1 hT H locs hM ls hl
      obtain rfl : i = k := by omega
      have h_rd : sM G ad n r1 f1 dv1 Mb rd = some (eO 8 [.int v0, .int v1, .ref eb, .int (nI i), .ref x]) := (sM_out o_rd).trans h_rd0
      have h_eb : sM G ad n r1 f1 dv1 Mb eb = some (eQ (G.2.1 8) 60 fn) := (sM_out o_eb).trans h_eb0
      have hX : (tRun b nb (nb + 1) 0 r f) = (i, r1, f1) := hT.trans (by rw [tRun_end hend]; rfl)
      refine lv_iload_n F.1.1 F.1.2.1 dX10_carryOut_2 rfl (lv_at hl 0 rfl) ?_
      refine lv_aload_n F.1.1 F.1.2.1 dX10_carryOut_3 rfl (lv_at hl 1 rfl) ?_
      refine cg8 F hM h_rd 3 (by decide) q742 (fun x h => h) rfl dX10_carryOut_4 ?_
      refine mr_icmp_geN F (tgt := 31) dX10_carryOut_7 (by decide) (by omega) (by omega) (fun c7 => ?_) (fun c7 => ?_)
      · refine lv_iload_n F.1.1 F.1.2.1 dX10_carryOut_31 rfl (lv_at hl 0 rfl) ?_
        exact mr_iret F hQ hM ⟨dv1, by rw [hX], by rw [hX]; exact hz1, by rw [hX]⟩ (by first | (show 4 * i ≤ 244; omega) | (show 4 * i + 4 ≤ 244; omega)) (by first | (show 9 * i ≤ 549; omega) | (show 9 * i + 9 ≤ 549; omega)) dX10_carryOut_32
      · exact absurd c7 (by omega)
    | succ j ih =>
      intro i r1 f1 dv1 hi hz1 hT H locs hM ls hl
      have h_rd : sM G ad n r1 f1 dv1 Mb rd = some (eO 8 [.int v0, .int v1, .ref eb, .int (nI k), .ref x]) := (sM_out o_rd).trans h_rd0
      have h_eb : sM G ad n r1 f1 dv1 Mb eb = some (eQ (G.2.1 8) 60 fn) := (sM_out o_eb).trans h_eb0
      obtain ⟨hlt, hPw, o, hfo, hoM, hoo⟩ := hO i (by omega)
      have hge := rPos_ge b nb i
      have h_o : sM G ad n r1 f1 dv1 Mb o = some (rOa G b nb (rPos b nb i)) := (sM_out hoo).trans hoM
      rw [show nb + 1 - i = (nb - i) + 1 by omega] at hT
      refine lv_iload_n F.1.1 F.1.2.1 dX10_carryOut_2 rfl (lv_at hl 0 rfl) ?_
      refine lv_aload_n F.1.1 F.1.2.1 dX10_carryOut_3 rfl (lv_at hl 1 rfl) ?_
      refine cg8 F hM h_rd 3 (by decide) q742 (fun x h => h) rfl dX10_carryOut_4 ?_
      refine mr_icmp_geN F (tgt := 31) dX10_carryOut_7 (by decide) (by omega) (by omega) (fun c7 => ?_) (fun c7 => ?_)
      · exact absurd c7 (by omega)
      · refine lv_aload_n F.1.1 F.1.2.1 dX10_carryOut_10 rfl (lv_at hl 1 rfl) ?_
        refine cg8 F hM h_rd 2 (by decide) q741 (fun x h => h) rfl dX10_carryOut_11 ?_
        refine lv_iload_n F.1.1 F.1.2.1 dX10_carryOut_14 rfl (lv_at hl 0 rfl) ?_
        refine mr_aald F.1.1 F.1.2.1 F.2.1 hM 8 h_eb rfl (by omega) (by omega) (show va_rf (fn i) = .ref o from congrArg va_rf hfo) dX10_carryOut_15 ?_
        refine lv_aload_n F.1.1 F.1.2.1 dX10_carryOut_16 rfl (lv_at hl 2 rfl) ?_
        refine mc_ord F hM hz1 (rOk_of hb hPw) h_o q1682 hl.1 rfl (Nat.le_of_ble_eq_true rfl) dX10_carryOut_17 (Nat.le_of_ble_eq_true rfl) (Nat.le_of_ble_eq_true rfl) ⟨(show 4 * i + 4 ≤ 244 by omega), (show 9 * i + 9 ≤ 549 by omega)⟩ (fun dv2 hz2 H locs hM => ?_)
        refine lv_if_eq (tgt := 31) F.1.1 F.1.2.1 dX10_carryOut_22 (by decide) (fun c22 => ?_) (fun c22 => ?_)
        · have hp : ¬ (tDo r1 f1 (tSg b nb (rPos b nb i)) (tPart b nb (tSg b nb (rPos b nb i)) (rPos b nb i)).2.2.1 (tPart b nb (tSg b nb (rPos b nb i)) (rPos b nb i)).2.2.2.1 (tPart b nb (tSg b nb (rPos b nb i)) (rPos b nb i)).2.2.2.2).1 = true := fun q => by rw [q] at c22; exact absurd c22 (by decide)
          have hX := hT.trans (by rw [tRun_no hlt hp]; rfl : _ = (i, (tDo r1 f1 (tSg b nb (rPos b nb i)) (tPart b nb (tSg b nb (rPos b nb i)) (rPos b nb i)).2.2.1 (tPart b nb (tSg b nb (rPos b nb i)) (rPos b nb i)).2.2.2.1 (tPart b nb (tSg b nb (rPos b nb i)) (rPos b nb i)).2.2.2.2).2))
          refine lv_iload_n F.1.1 F.1.2.1 dX10_carryOut_31 rfl (lv_at hl 0 rfl) ?_
          exact mr_iret F hQ hM ⟨dv2, by rw [hX], by rw [hX]; exact hz2, by rw [hX]⟩ (by first | (show 4 * i ≤ 244; omega) | (show 4 * i + 4 ≤ 244; omega)) (by first | (show 9 * i ≤ 549; omega) | (show 9 * i + 9 ≤ 549; omega)) dX10_carryOut_32
        · have hp : (tDo r1 f1 (tSg b nb (rPos b nb i)) (tPart b nb (tSg b nb (rPos b nb i)) (rPos b nb i)).2.2.1 (tPart b nb (tSg b nb (rPos b nb i)) (rPos b nb i)).2.2.2.1 (tPart b nb (tSg b nb (rPos b nb i)) (rPos b nb i)).2.2.2.2).1 = true := Classical.byContradiction (fun q => c22 (by rw [Bool.eq_false_iff.mpr q]; rfl))
          refine lv_iinc (lv' := [(2, _), (0, _), (1, _)]) F.1.1 F.1.2.1 dX10_carryOut_25 hl (k := 0) rfl (nK_add _ 1) (by decide) rfl (fun ls hl => ?_)
          refine lv_goto (tgt := 2) F.1.1 F.1.2.1 dX10_carryOut_28 (by decide) ?_
          refine W.widen (show 4 * i + 4 ≤ 4 * (i + 1) by omega) (show 9 * i + 9 ≤ 9 * (i + 1) by omega) (ih (i + 1) _ _ dv2 (by omega) hz2 ?_ _ _ hM _ (lv_sub hl [0, 1, 2] rfl))
          rw [hT, tRun_on hlt hp, show nb + 1 - (i + 1) = nb - i by omega, show rPos b nb (i + 1) = (tPart b nb (tSg b nb (rPos b nb i)) (rPos b nb i)).1 + 1 from rfl]
          dsimp only
          rw [show ∀ q : Nat, i + (q + 1) = i + 1 + q from fun q => by omega]
  exact lp k 0 r f dv (by omega) hz (by rw [Nat.zero_add]; rfl) _ _ hM _ hl
