/-! THE DEQUE -/
set_option maxHeartbeats 4000000 in
theorem cs_J8_sub (l : Launch) {G : mG} {M0 : mM} {a b : Nat} (ha : a < 17) (hb : b < 17) : mMet l yJ8_sub (ws_ yJ8_sub cJ8_sub 3 (some .int)) (mRm 1 0 0) [.int (nI a), .int (nI b), .int (nI 17)] G (pPre (M0)) (pPost (M0) (some (.int (nI ((a + 17 - b) % 17))))) := by
  refine mMet.of (by decide +kernel) (Nat.le_of_ble_eq_true rfl) fun p e s m args below meth c A Q M hM0 F hnm hQ hM ls hl => ?_
  have hM0 : M0 = M := hM0.symm
  subst hM0
  have hl : lv_has ls 3 [(0, .int (nI a)), (1, .int (nI b)), (2, .int (nI 17))] := hl
  refine lv_iload_n F.1.1 F.1.2.1 dJ8_sub_0 rfl (lv_at hl 0 rfl) ?_
  refine lv_iload_n F.1.1 F.1.2.1 dJ8_sub_1 rfl (lv_at hl 1 rfl) ?_
  refine lv_isub F.1.1 F.1.2.1 dJ8_sub_2 ?_
  refine lv_dup F.1.1 F.1.2.1 dJ8_sub_3 rfl ?_
  refine lv_istore_n (lv' := [(0, _), (1, _), (2, _)]) F.1.1 F.1.2.1 dJ8_sub_4 rfl hl (by decide) rfl (fun ls hl => ?_)
  refine lv_if_ge (tgt := 12) F.1.1 F.1.2.1 dJ8_sub_5 (by decide) (fun c5 => ?_) (fun c5 => ?_)
  · have hE := dq_sub1 ha hb c5
    refine lv_iload_n F.1.1 F.1.2.1 dJ8_sub_12 rfl (lv_at hl 0 rfl) ?_
    exact mr_iret F hQ hM ⟨by rw [hE], rfl⟩ (Nat.le_of_ble_eq_true rfl) (Nat.le_of_ble_eq_true rfl) dJ8_sub_13
  · have hE := dq_sub2 ha hb c5
    refine lv_iload_n F.1.1 F.1.2.1 dJ8_sub_8 rfl (lv_at hl 0 rfl) ?_
    refine lv_iload_n F.1.1 F.1.2.1 dJ8_sub_9 rfl (lv_at hl 2 rfl) ?_
    refine lv_iadd F.1.1 F.1.2.1 dJ8_sub_10 ?_
    refine lv_istore_n (lv' := [(0, _), (1, _), (2, _)]) F.1.1 F.1.2.1 dJ8_sub_11 rfl hl (by decide) rfl (fun ls hl => ?_)
    refine lv_iload_n F.1.1 F.1.2.1 dJ8_sub_12 rfl (lv_at hl 0 rfl) ?_
    exact mr_iret F hQ hM ⟨by rw [hE], rfl⟩ (Nat.le_of_ble_eq_true rfl) (Nat.le_of_ble_eq_true rfl) dJ8_sub_13
set_option maxHeartbeats 4000000 in
theorem cs_J8_inc (l : Launch) {G : mG} {M0 : mM} {a : Nat} (ha : a < 17) : mMet l yJ8_inc (ws_ yJ8_inc cJ8_inc 2 (some .int)) (mRm 1 0 0) [.int (nI a), .int (nI 17)] G (pPre (M0)) (pPost (M0) (some (.int (nI ((a + 1) % 17))))) := by
  refine mMet.of (by decide +kernel) (Nat.le_of_ble_eq_true rfl) fun p e s m args below meth c A Q M hM0 F hnm hQ hM ls hl => ?_
  have hM0 : M0 = M := hM0.symm
  subst hM0
  have hl : lv_has ls 2 [(0, .int (nI a)), (1, .int (nI 17))] := hl
  refine lv_iinc (lv' := [(0, _), (1, _)]) F.1.1 F.1.2.1 dJ8_inc_0 hl (k := 0) rfl (nK_add _ 1) (by decide) rfl (fun ls hl => ?_)
  refine lv_iload_n F.1.1 F.1.2.1 dJ8_inc_3 rfl (lv_at hl 0 rfl) ?_
  refine lv_iload_n F.1.1 F.1.2.1 dJ8_inc_4 rfl (lv_at hl 1 rfl) ?_
  refine mr_icmp_ltN F (tgt := 10) dJ8_inc_5 (by decide) (by omega) (by omega) (fun c5 => ?_) (fun c5 => ?_)
  · have hE : (a + 1) % 17 = a + 1 := Nat.mod_eq_of_lt c5
    refine lv_iload_n F.1.1 F.1.2.1 dJ8_inc_10 rfl (lv_at hl 0 rfl) ?_
    exact mr_iret F hQ hM ⟨by rw [hE], rfl⟩ (Nat.le_of_ble_eq_true rfl) (Nat.le_of_ble_eq_true rfl) dJ8_inc_11
  · have hE : (a + 1) % 17 = 0 := by omega
    refine mr_iconst F 0 dJ8_inc_8 (by decide +kernel) ?_
    refine lv_istore_n (lv' := [(0, _), (1, _)]) F.1.1 F.1.2.1 dJ8_inc_9 rfl hl (by decide) rfl (fun ls hl => ?_)
    refine lv_iload_n F.1.1 F.1.2.1 dJ8_inc_10 rfl (lv_at hl 0 rfl) ?_
    exact mr_iret F hQ hM ⟨by rw [hE], rfl⟩ (Nat.le_of_ble_eq_true rfl) (Nat.le_of_ble_eq_true rfl) dJ8_inc_11
set_option maxHeartbeats 4000000 in
theorem cs_J8_dec (l : Launch) {G : mG} {M0 : mM} {a : Nat} (ha : a < 17) : mMet l yJ8_dec (ws_ yJ8_dec cJ8_dec 2 (some .int)) (mRm 1 0 0) [.int (nI a), .int (nI 17)] G (pPre (M0)) (pPost (M0) (some (.int (nI ((a + 16) % 17))))) := by
  refine mMet.of (by decide +kernel) (Nat.le_of_ble_eq_true rfl) fun p e s m args below meth c A Q M hM0 F hnm hQ hM ls hl => ?_
  have hM0 : M0 = M := hM0.symm
  subst hM0
  have hl : lv_has ls 2 [(0, .int (nI a)), (1, .int (nI 17))] := hl
  refine lv_iinc (lv' := [(0, _), (1, _)]) F.1.1 F.1.2.1 dJ8_dec_0 hl (k := 0) rfl rfl (by decide) rfl (fun ls hl => ?_)
  refine lv_iload_n F.1.1 F.1.2.1 dJ8_dec_3 rfl (lv_at hl 0 rfl) ?_
  refine lv_if_ge (tgt := 11) F.1.1 F.1.2.1 dJ8_dec_4 (by decide) (fun c4 => ?_) (fun c4 => ?_)
  · have hE : nI a + Int32.ofInt (-1) = nI ((a + 16) % 17) := dq_dec1 ha c4
    refine lv_iload_n F.1.1 F.1.2.1 dJ8_dec_11 rfl (lv_at hl 0 rfl) ?_
    exact mr_iret F hQ hM ⟨by rw [hE], rfl⟩ (Nat.le_of_ble_eq_true rfl) (Nat.le_of_ble_eq_true rfl) dJ8_dec_12
  · have hE := dq_dec2 ha c4
    refine lv_iload_n F.1.1 F.1.2.1 dJ8_dec_7 rfl (lv_at hl 1 rfl) ?_
    refine mr_iconst F 1 dJ8_dec_8 (by decide +kernel) ?_
    refine mr_isubN F (by omega) dJ8_dec_9 ?_
    refine lv_istore_n (lv' := [(0, _), (1, _)]) F.1.1 F.1.2.1 dJ8_dec_10 rfl hl (by decide) rfl (fun ls hl => ?_)
    refine lv_iload_n F.1.1 F.1.2.1 dJ8_dec_11 rfl (lv_at hl 0 rfl) ?_
    exact mr_iret F hQ hM ⟨by rw [hE], rfl⟩ (Nat.le_of_ble_eq_true rfl) (Nat.le_of_ble_eq_true rfl) dJ8_dec_12
set_option maxHeartbeats 4000000 in
theorem cs_J8_elementAt (l : Launch) {G : mG} {M0 : mM} {eb k v : Nat} {fn : Nat → Option Nat} (h_eb : M0 eb = some (eQ (G.2.1 4) 17 fn)) (hk : k < 17) (hv : fn k = some v) : mMet l yJ8_elementAt (ws_ yJ8_elementAt cJ8_elementAt 2 (some (.object "java/lang/Object"))) (mRm 1 0 0) [.ref eb, .int (nI k)] G (pPre M0) (pPost M0 (some (.ref v))) := by
  refine mMet.of (by decide +kernel) (Nat.le_of_ble_eq_true rfl) fun p e s m args below meth c A Q M hM0 F hnm hQ hM ls hl => ?_
  have hM0 : M0 = M := hM0.symm
  subst hM0
  have hl : lv_has ls 2 [(0, .ref eb), (1, .int (nI k))] := hl
  refine lv_aload_n F.1.1 F.1.2.1 dJ8_elementAt_0 rfl (lv_at hl 0 rfl) ?_
  refine lv_iload_n F.1.1 F.1.2.1 dJ8_elementAt_1 rfl (lv_at hl 1 rfl) ?_
  refine mr_aald F.1.1 F.1.2.1 F.2.1 hM 4 h_eb rfl (by omega) (by omega) (show va_rf (fn k) = .ref v from congrArg va_rf hv) dJ8_elementAt_2 ?_
  exact mr_aret F hQ (by first | exact Or.inl ⟨_, rfl⟩ | exact Or.inr ⟨_, rfl⟩) hM ⟨rfl, rfl⟩ (Nat.le_of_ble_eq_true rfl) (Nat.le_of_ble_eq_true rfl) dJ8_elementAt_3
set_option maxHeartbeats 4000000 in
theorem cs_J8_size (l : Launch) {G : mG} {M0 : mM} {q eb a b : Nat} {fn : Nat → Option Nat} (h_q : M0 q = some (eO 10 [.ref eb, .int (nI a), .int (nI b)])) (h_eb : M0 eb = some (eQ (G.2.1 4) 17 fn)) (n_q_eb : q ≠ eb) (ha : a < 17) (hb : b < 17) : mMet l yJ8_size (ws_ yJ8_size cJ8_size 1 (some .int)) (mRm 2 0 0) [.ref q] G (pPre M0) (pPost M0 (some (.int (nI ((b + 17 - a) % 17))))) := by
  refine mMet.of (by decide +kernel) (Nat.le_of_ble_eq_true rfl) fun p e s m args below meth c A Q M hM0 F hnm hQ hM ls hl => ?_
  have hM0 : M0 = M := hM0.symm
  subst hM0
  have hl : lv_has ls 1 [(0, .ref q)] := hl
  refine lv_aload_n F.1.1 F.1.2.1 dJ8_size_0 rfl (lv_at hl 0 rfl) ?_
  refine cg10 F hM h_q 2 (by decide) q345 (fun x h => h) rfl dJ8_size_1 ?_
  refine lv_aload_n F.1.1 F.1.2.1 dJ8_size_4 rfl (lv_at hl 0 rfl) ?_
  refine cg10 F hM h_q 1 (by decide) q344 (fun x h => h) rfl dJ8_size_5 ?_
  refine lv_aload_n F.1.1 F.1.2.1 dJ8_size_8 rfl (lv_at hl 0 rfl) ?_
  refine cg10 F hM h_q 0 (by decide) q343 (fun x h => h) rfl dJ8_size_9 ?_
  refine mr_alenQ F hM 4 h_eb rfl dJ8_size_12 ?_
  refine mc_Sa (As := [_, _, _]) F hM (cs_J8_sub l (by omega) (by omega)) (va_cwS 3 F.1.2.2.2.2 (lw_S q1024 q1025 q84 q1026) rfl rfl rfl (by decide +kernel) (mRm_ok (by decide) (by decide))) rfl rfl hl.1 rfl (Nat.le_of_ble_eq_true rfl) dJ8_size_13 ⟨Nat.le_of_ble_eq_true rfl, Nat.le_of_ble_eq_true rfl⟩ (fun H locs hM => ?_)
  exact mr_iret F hQ hM ⟨rfl, rfl⟩ (Nat.le_of_ble_eq_true rfl) (Nat.le_of_ble_eq_true rfl) dJ8_size_16
set_option maxHeartbeats 4000000 in
theorem cs_J8_isEmpty (l : Launch) {G : mG} {M0 : mM} {q eb a b : Nat} {fn : Nat → Option Nat} (h_q : M0 q = some (eO 10 [.ref eb, .int (nI a), .int (nI b)])) (ha : a < 17) (hb : b < 17) : mMet l yJ8_isEmpty (ws_ yJ8_isEmpty cJ8_isEmpty 1 (some .boolean)) (mRm 1 0 0) [.ref q] G (pPre M0) (pPost M0 (some (.int (bI (a = b))))) := by
  refine mMet.of (by decide +kernel) (Nat.le_of_ble_eq_true rfl) fun p e s m args below meth c A Q M hM0 F hnm hQ hM ls hl => ?_
  have hM0 : M0 = M := hM0.symm
  subst hM0
  have hl : lv_has ls 1 [(0, .ref q)] := hl
  refine lv_aload_n F.1.1 F.1.2.1 dJ8_isEmpty_0 rfl (lv_at hl 0 rfl) ?_
  refine cg10 F hM h_q 1 (by decide) q344 (fun x h => h) rfl dJ8_isEmpty_1 ?_
  refine lv_aload_n F.1.1 F.1.2.1 dJ8_isEmpty_4 rfl (lv_at hl 0 rfl) ?_
  refine cg10 F hM h_q 2 (by decide) q345 (fun x h => h) rfl dJ8_isEmpty_5 ?_
  refine mr_icmp_neN F (tgt := 15) dJ8_isEmpty_8 (by decide) (by omega) (by omega) (fun c8 => ?_) (fun c8 => ?_)
  · have hE : bI (a = b) = nI 0 := bI_f c8
    refine mr_iconst F 0 dJ8_isEmpty_15 (by decide +kernel) ?_
    exact mr_zret F hQ (by first | rfl | exact nZ_bI _) hM ⟨by rw [hE], rfl⟩ (Nat.le_of_ble_eq_true rfl) (Nat.le_of_ble_eq_true rfl) dJ8_isEmpty_16
  · have hE : bI (a = b) = nI 1 := bI_t c8
    refine mr_iconst F 1 dJ8_isEmpty_11 (by decide +kernel) ?_
    refine lv_goto (tgt := 16) F.1.1 F.1.2.1 dJ8_isEmpty_12 (by decide) ?_
    exact mr_zret F hQ (by first | rfl | exact nZ_bI _) hM ⟨by rw [hE], rfl⟩ (Nat.le_of_ble_eq_true rfl) (Nat.le_of_ble_eq_true rfl) dJ8_isEmpty_16
set_option maxHeartbeats 4000000 in
theorem cs_J8_pollFirst (l : Launch) {G : mG} {M0 : mM} {q eb a b : Nat} {fn : Nat → Option Nat} {v : Nat} (h_q : M0 q = some (eO 10 [.ref eb, .int (nI a), .int (nI b)])) (h_eb : M0 eb = some (eQ (G.2.1 4) 17 fn)) (n_q_eb : q ≠ eb) (ha : a < 17) (hb : b < 17) (hv : fn a = some v) : mMet l yJ8_pollFirst (ws_ yJ8_pollFirst cJ8_pollFirst 4 (some (.object "java/lang/Object"))) (mRm 2 0 0) [.ref q] G (pPre M0) (pPost (mup (mup M0 eb (eQ (G.2.1 4) 17 (va_up fn a none))) q (eO 10 [.ref eb, .int (nI ((a + 1) % 17)), .int (nI b)])) (some (.ref v))) := by
  refine mMet.of (by decide +kernel) (Nat.le_of_ble_eq_true rfl) fun p e s m args below meth c A Q M hM0 F hnm hQ hM ls hl => ?_
  have hM0 : M0 = M := hM0.symm
  subst hM0
  have hl : lv_has ls 4 [(0, .ref q)] := hl
  refine lv_aload_n F.1.1 F.1.2.1 dJ8_pollFirst_0 rfl (lv_at hl 0 rfl) ?_
  refine cg10 F hM h_q 0 (by decide) q343 (fun x h => h) rfl dJ8_pollFirst_1 ?_
  refine lv_dup F.1.1 F.1.2.1 dJ8_pollFirst_4 rfl ?_
  refine lv_astore_n (lv' := [(1, _), (0, _)]) F.1.1 F.1.2.1 dJ8_pollFirst_5 rfl hl (by decide) rfl (fun ls hl => ?_)
  refine lv_aload_n F.1.1 F.1.2.1 dJ8_pollFirst_6 rfl (lv_at hl 1 rfl) ?_
  refine cg10 F hM h_q 1 (by decide) q344 (fun x h => h) rfl dJ8_pollFirst_7 ?_
  refine lv_dup F.1.1 F.1.2.1 dJ8_pollFirst_10 rfl ?_
  refine lv_istore_n (lv' := [(2, _), (1, _), (0, _)]) F.1.1 F.1.2.1 dJ8_pollFirst_11 rfl hl (by decide) rfl (fun ls hl => ?_)
  refine mc_Sa (As := [_, _]) F hM (cs_J8_elementAt l h_eb (by omega) hv) (va_cwS 2 F.1.2.2.2.2 (lw_S q1260 q1261 q84 q1262) rfl rfl rfl (by decide +kernel) (mRm_ok (by decide) (by decide))) rfl rfl hl.1 rfl (Nat.le_of_ble_eq_true rfl) dJ8_pollFirst_12 ⟨Nat.le_of_ble_eq_true rfl, Nat.le_of_ble_eq_true rfl⟩ (fun H locs hM => ?_)
  refine lv_astore_n (lv' := [(3, _), (2, _), (1, _), (0, _)]) F.1.1 F.1.2.1 dJ8_pollFirst_15 rfl hl (by decide) rfl (fun ls hl => ?_)
  refine lv_aload_n F.1.1 F.1.2.1 dJ8_pollFirst_16 rfl (lv_at hl 0 rfl) ?_
  refine lv_ifnull F.1.1 F.1.2.1 dJ8_pollFirst_17 ?_
  refine lv_aload_n F.1.1 F.1.2.1 dJ8_pollFirst_20 rfl (lv_at hl 2 rfl) ?_
  refine lv_iload_n F.1.1 F.1.2.1 dJ8_pollFirst_21 rfl (lv_at hl 1 rfl) ?_
  refine lv_null F.1.1 F.1.2.1 dJ8_pollFirst_22 ?_
  refine mr_aastN F hM 4 h_eb rfl (by omega) (by omega) dJ8_pollFirst_23 (fun H locs hM => ?_)
  have h_q := nw_put hM n_q_eb h_q
  have h_eb := nw_self hM
  refine lv_aload_n F.1.1 F.1.2.1 dJ8_pollFirst_24 rfl (lv_at hl 3 rfl) ?_
  refine lv_iload_n F.1.1 F.1.2.1 dJ8_pollFirst_25 rfl (lv_at hl 1 rfl) ?_
  refine lv_aload_n F.1.1 F.1.2.1 dJ8_pollFirst_26 rfl (lv_at hl 2 rfl) ?_
  refine mr_alenQ F hM 4 h_eb rfl dJ8_pollFirst_27 ?_
  refine mc_Sa (As := [_, _]) F hM (cs_J8_inc l (by omega)) (va_cwS 2 F.1.2.2.2.2 (lw_S q1263 q1264 q84 q1265) rfl rfl rfl (by decide +kernel) (mRm_ok (by decide) (by decide))) rfl rfl hl.1 rfl (Nat.le_of_ble_eq_true rfl) dJ8_pollFirst_28 ⟨Nat.le_of_ble_eq_true rfl, Nat.le_of_ble_eq_true rfl⟩ (fun H locs hM => ?_)
  refine cp10 F hM h_q 1 (by decide) q344 (fun x h => h) rfl rfl rfl (Nat.le_of_ble_eq_true rfl) dJ8_pollFirst_31 (fun H locs hM => ?_)
  have h_eb := nw_put hM (Ne.symm n_q_eb) h_eb
  have h_q := nw_self hM
  refine lv_aload_n F.1.1 F.1.2.1 dJ8_pollFirst_34 rfl (lv_at hl 0 rfl) ?_
  exact mr_aret F hQ (by first | exact Or.inl ⟨_, rfl⟩ | exact Or.inr ⟨_, rfl⟩) hM ⟨rfl, rfl⟩ (Nat.le_of_ble_eq_true rfl) (Nat.le_of_ble_eq_true rfl) dJ8_pollFirst_35
set_option maxHeartbeats 4000000 in
theorem cs_J8_removeFirst (l : Launch) {G : mG} {M0 : mM} {q eb a b : Nat} {fn : Nat → Option Nat} {v : Nat} (h_q : M0 q = some (eO 10 [.ref eb, .int (nI a), .int (nI b)])) (h_eb : M0 eb = some (eQ (G.2.1 4) 17 fn)) (n_q_eb : q ≠ eb) (ha : a < 17) (hb : b < 17) (hv : fn a = some v) : mMet l yJ8_removeFirst (ws_ yJ8_removeFirst cJ8_removeFirst 2 (some (.object "java/lang/Object"))) (mRm 3 0 0) [.ref q] G (pPre M0) (pPost (mup (mup M0 eb (eQ (G.2.1 4) 17 (va_up fn a none))) q (eO 10 [.ref eb, .int (nI ((a + 1) % 17)), .int (nI b)])) (some (.ref v))) := by
  refine mMet.of (by decide +kernel) (Nat.le_of_ble_eq_true rfl) fun p e s m args below meth c A Q M hM0 F hnm hQ hM ls hl => ?_
  have hM0 : M0 = M := hM0.symm
  subst hM0
  have hl : lv_has ls 2 [(0, .ref q)] := hl
  refine lv_aload_n F.1.1 F.1.2.1 dJ8_removeFirst_0 rfl (lv_at hl 0 rfl) ?_
  refine mc_Va (As := []) F hM (cs_J8_pollFirst l h_q h_eb n_q_eb ha hb hv) (cwV 0 F.1.2.2.2.2 (lw_V q1256 q1257 q1258 q84 q1259) rfl rfl rfl (by decide +kernel) (mRm_ok (by decide) (by decide))) h_q rfl rfl rfl rfl hl.1 rfl (Nat.le_of_ble_eq_true rfl) dJ8_removeFirst_1 ⟨Nat.le_of_ble_eq_true rfl, Nat.le_of_ble_eq_true rfl⟩ (fun H locs hM => ?_)
  refine lv_astore_n (lv' := [(1, _), (0, _)]) F.1.1 F.1.2.1 dJ8_removeFirst_4 rfl hl (by decide) rfl (fun ls hl => ?_)
  refine lv_aload_n F.1.1 F.1.2.1 dJ8_removeFirst_5 rfl (lv_at hl 0 rfl) ?_
  refine lv_ifnonnull (tgt := 17) F.1.1 F.1.2.1 dJ8_removeFirst_6 (by decide) ?_
  refine lv_aload_n F.1.1 F.1.2.1 dJ8_removeFirst_17 rfl (lv_at hl 0 rfl) ?_
  exact mr_aret F hQ (by first | exact Or.inl ⟨_, rfl⟩ | exact Or.inr ⟨_, rfl⟩) hM ⟨rfl, rfl⟩ (Nat.le_of_ble_eq_true rfl) (Nat.le_of_ble_eq_true rfl) dJ8_removeFirst_18
set_option maxHeartbeats 4000000 in
theorem cs_J8_pollLast (l : Launch) {G : mG} {M0 : mM} {q eb a b : Nat} {fn : Nat → Option Nat} {v : Nat} (h_q : M0 q = some (eO 10 [.ref eb, .int (nI a), .int (nI b)])) (h_eb : M0 eb = some (eQ (G.2.1 4) 17 fn)) (n_q_eb : q ≠ eb) (ha : a < 17) (hb : b < 17) (hv : fn ((b + 16) % 17) = some v) : mMet l yJ8_pollLast (ws_ yJ8_pollLast cJ8_pollLast 4 (some (.object "java/lang/Object"))) (mRm 2 0 0) [.ref q] G (pPre M0) (pPost (mup (mup M0 q (eO 10 [.ref eb, .int (nI a), .int (nI ((b + 16) % 17))])) eb (eQ (G.2.1 4) 17 (va_up fn ((b + 16) % 17) none))) (some (.ref v))) := by
  refine mMet.of (by decide +kernel) (Nat.le_of_ble_eq_true rfl) fun p e s m args below meth c A Q M hM0 F hnm hQ hM ls hl => ?_
  have hM0 : M0 = M := hM0.symm
  subst hM0
  have hl : lv_has ls 4 [(0, .ref q)] := hl
  refine lv_aload_n F.1.1 F.1.2.1 dJ8_pollLast_0 rfl (lv_at hl 0 rfl) ?_
  refine cg10 F hM h_q 0 (by decide) q343 (fun x h => h) rfl dJ8_pollLast_1 ?_
  refine lv_dup F.1.1 F.1.2.1 dJ8_pollLast_4 rfl ?_
  refine lv_astore_n (lv' := [(1, _), (0, _)]) F.1.1 F.1.2.1 dJ8_pollLast_5 rfl hl (by decide) rfl (fun ls hl => ?_)
  refine lv_aload_n F.1.1 F.1.2.1 dJ8_pollLast_6 rfl (lv_at hl 1 rfl) ?_
  refine cg10 F hM h_q 2 (by decide) q345 (fun x h => h) rfl dJ8_pollLast_7 ?_
  refine lv_aload_n F.1.1 F.1.2.1 dJ8_pollLast_10 rfl (lv_at hl 0 rfl) ?_
  refine mr_alenQ F hM 4 h_eb rfl dJ8_pollLast_11 ?_
  refine mc_Sa (As := [_, _]) F hM (cs_J8_dec l (by omega)) (va_cwS 2 F.1.2.2.2.2 (lw_S q1704 q1705 q84 q1706) rfl rfl rfl (by decide +kernel) (mRm_ok (by decide) (by decide))) rfl rfl hl.1 rfl (Nat.le_of_ble_eq_true rfl) dJ8_pollLast_12 ⟨Nat.le_of_ble_eq_true rfl, Nat.le_of_ble_eq_true rfl⟩ (fun H locs hM => ?_)
  refine lv_dup F.1.1 F.1.2.1 dJ8_pollLast_15 rfl ?_
  refine lv_istore_n (lv' := [(2, _), (1, _), (0, _)]) F.1.1 F.1.2.1 dJ8_pollLast_16 rfl hl (by decide) rfl (fun ls hl => ?_)
  refine mc_Sa (As := [_, _]) F hM (cs_J8_elementAt l h_eb (by omega) hv) (va_cwS 2 F.1.2.2.2.2 (lw_S q1260 q1261 q84 q1262) rfl rfl rfl (by decide +kernel) (mRm_ok (by decide) (by decide))) rfl rfl hl.1 rfl (Nat.le_of_ble_eq_true rfl) dJ8_pollLast_17 ⟨Nat.le_of_ble_eq_true rfl, Nat.le_of_ble_eq_true rfl⟩ (fun H locs hM => ?_)
  refine lv_astore_n (lv' := [(3, _), (2, _), (1, _), (0, _)]) F.1.1 F.1.2.1 dJ8_pollLast_20 rfl hl (by decide) rfl (fun ls hl => ?_)
  refine lv_aload_n F.1.1 F.1.2.1 dJ8_pollLast_21 rfl (lv_at hl 0 rfl) ?_
  refine lv_ifnull F.1.1 F.1.2.1 dJ8_pollLast_22 ?_
  refine lv_aload_n F.1.1 F.1.2.1 dJ8_pollLast_25 rfl (lv_at hl 2 rfl) ?_
  refine lv_aload_n F.1.1 F.1.2.1 dJ8_pollLast_26 rfl (lv_at hl 3 rfl) ?_
  refine lv_iload_n F.1.1 F.1.2.1 dJ8_pollLast_27 rfl (lv_at hl 1 rfl) ?_
  refine lv_dup_x1 F.1.1 F.1.2.1 dJ8_pollLast_28 rfl rfl ?_
  refine cp10 F hM h_q 2 (by decide) q345 (fun x h => h) rfl rfl rfl (Nat.le_of_ble_eq_true rfl) dJ8_pollLast_29 (fun H locs hM => ?_)
  have h_eb := nw_put hM (Ne.symm n_q_eb) h_eb
  have h_q := nw_self hM
  refine lv_null F.1.1 F.1.2.1 dJ8_pollLast_32 ?_
  refine mr_aastN F hM 4 h_eb rfl (by omega) (by omega) dJ8_pollLast_33 (fun H locs hM => ?_)
  have h_q := nw_put hM n_q_eb h_q
  have h_eb := nw_self hM
  refine lv_aload_n F.1.1 F.1.2.1 dJ8_pollLast_34 rfl (lv_at hl 0 rfl) ?_
  exact mr_aret F hQ (by first | exact Or.inl ⟨_, rfl⟩ | exact Or.inr ⟨_, rfl⟩) hM ⟨rfl, rfl⟩ (Nat.le_of_ble_eq_true rfl) (Nat.le_of_ble_eq_true rfl) dJ8_pollLast_35
set_option maxHeartbeats 4000000 in
theorem cs_J8_removeLast (l : Launch) {G : mG} {M0 : mM} {q eb a b : Nat} {fn : Nat → Option Nat} {v : Nat} (h_q : M0 q = some (eO 10 [.ref eb, .int (nI a), .int (nI b)])) (h_eb : M0 eb = some (eQ (G.2.1 4) 17 fn)) (n_q_eb : q ≠ eb) (ha : a < 17) (hb : b < 17) (hv : fn ((b + 16) % 17) = some v) : mMet l yJ8_removeLast (ws_ yJ8_removeLast cJ8_removeLast 2 (some (.object "java/lang/Object"))) (mRm 3 0 0) [.ref q] G (pPre M0) (pPost (mup (mup M0 q (eO 10 [.ref eb, .int (nI a), .int (nI ((b + 16) % 17))])) eb (eQ (G.2.1 4) 17 (va_up fn ((b + 16) % 17) none))) (some (.ref v))) := by
  refine mMet.of (by decide +kernel) (Nat.le_of_ble_eq_true rfl) fun p e s m args below meth c A Q M hM0 F hnm hQ hM ls hl => ?_
  have hM0 : M0 = M := hM0.symm
  subst hM0
  have hl : lv_has ls 2 [(0, .ref q)] := hl
  refine lv_aload_n F.1.1 F.1.2.1 dJ8_removeLast_0 rfl (lv_at hl 0 rfl) ?_
  refine mc_Va (As := []) F hM (cs_J8_pollLast l h_q h_eb n_q_eb ha hb hv) (cwV 0 F.1.2.2.2.2 (lw_V q1700 q1701 q1702 q84 q1703) rfl rfl rfl (by decide +kernel) (mRm_ok (by decide) (by decide))) h_q rfl rfl rfl rfl hl.1 rfl (Nat.le_of_ble_eq_true rfl) dJ8_removeLast_1 ⟨Nat.le_of_ble_eq_true rfl, Nat.le_of_ble_eq_true rfl⟩ (fun H locs hM => ?_)
  refine lv_astore_n (lv' := [(1, _), (0, _)]) F.1.1 F.1.2.1 dJ8_removeLast_4 rfl hl (by decide) rfl (fun ls hl => ?_)
  refine lv_aload_n F.1.1 F.1.2.1 dJ8_removeLast_5 rfl (lv_at hl 0 rfl) ?_
  refine lv_ifnonnull (tgt := 17) F.1.1 F.1.2.1 dJ8_removeLast_6 (by decide) ?_
  refine lv_aload_n F.1.1 F.1.2.1 dJ8_removeLast_17 rfl (lv_at hl 0 rfl) ?_
  exact mr_aret F hQ (by first | exact Or.inl ⟨_, rfl⟩ | exact Or.inr ⟨_, rfl⟩) hM ⟨rfl, rfl⟩ (Nat.le_of_ble_eq_true rfl) (Nat.le_of_ble_eq_true rfl) dJ8_removeLast_18
set_option maxHeartbeats 4000000 in
theorem cs_J8_addLast (l : Launch) {G : mG} {M0 : mM} {q eb a b : Nat} {fn : Nat → Option Nat} {v : Nat} {fsv : List Value} (h_q : M0 q = some (eO 10 [.ref eb, .int (nI a), .int (nI b)])) (h_eb : M0 eb = some (eQ (G.2.1 4) 17 fn)) (n_q_eb : q ≠ eb) (ha : a < 17) (hb : b < 17) (h_v : M0 v = some (eO 1 fsv)) (n_q_v : q ≠ v) (n_eb_v : eb ≠ v) (hne : a ≠ (b + 1) % 17) : mMet l yJ8_addLast (ws_ yJ8_addLast cJ8_addLast 3 none) (mRm 8 0 0) [.ref q, .ref v] G (pPre M0) (pPost (mup (mup M0 eb (eQ (G.2.1 4) 17 (va_up fn b (some v)))) q (eO 10 [.ref eb, .int (nI a), .int (nI ((b + 1) % 17))])) none) := by
  refine mMet.of (by decide +kernel) (Nat.le_of_ble_eq_true rfl) fun p e s m args below meth c A Q M hM0 F hnm hQ hM ls hl => ?_
  have hM0 : M0 = M := hM0.symm
  subst hM0
  have hl : lv_has ls 3 [(0, .ref q), (1, .ref v)] := hl
  refine lv_aload_n F.1.1 F.1.2.1 dJ8_addLast_0 rfl (lv_at hl 1 rfl) ?_
  refine lv_ifnonnull (tgt := 12) F.1.1 F.1.2.1 dJ8_addLast_1 (by decide) ?_
  refine lv_aload_n F.1.1 F.1.2.1 dJ8_addLast_12 rfl (lv_at hl 0 rfl) ?_
  refine cg10 F hM h_q 0 (by decide) q343 (fun x h => h) rfl dJ8_addLast_13 ?_
  refine lv_astore_n (lv' := [(2, _), (0, _), (1, _)]) F.1.1 F.1.2.1 dJ8_addLast_16 rfl hl (by decide) rfl (fun ls hl => ?_)
  refine lv_aload_n F.1.1 F.1.2.1 dJ8_addLast_17 rfl (lv_at hl 0 rfl) ?_
  refine lv_aload_n F.1.1 F.1.2.1 dJ8_addLast_18 rfl (lv_at hl 1 rfl) ?_
  refine cg10 F hM h_q 2 (by decide) q345 (fun x h => h) rfl dJ8_addLast_19 ?_
  refine lv_aload_n F.1.1 F.1.2.1 dJ8_addLast_22 rfl (lv_at hl 2 rfl) ?_
  refine mr_aastO F.1.1 F.1.2.1 F.2.1 hM 4 1 h_eb rfl (F.2.2.1.1 _ q2172 rfl) h_v rfl (by omega) (by omega) dJ8_addLast_23 (fun H locs hM => ?_)
  have h_q := nw_put hM n_q_eb h_q
  have h_v := nw_put hM (Ne.symm n_eb_v) h_v
  have h_eb := nw_self hM
  refine lv_aload_n F.1.1 F.1.2.1 dJ8_addLast_24 rfl (lv_at hl 1 rfl) ?_
  refine cg10 F hM h_q 1 (by decide) q344 (fun x h => h) rfl dJ8_addLast_25 ?_
  refine lv_aload_n F.1.1 F.1.2.1 dJ8_addLast_28 rfl (lv_at hl 1 rfl) ?_
  refine lv_aload_n F.1.1 F.1.2.1 dJ8_addLast_29 rfl (lv_at hl 1 rfl) ?_
  refine cg10 F hM h_q 2 (by decide) q345 (fun x h => h) rfl dJ8_addLast_30 ?_
  refine lv_aload_n F.1.1 F.1.2.1 dJ8_addLast_33 rfl (lv_at hl 0 rfl) ?_
  refine mr_alenQ F hM 4 h_eb rfl dJ8_addLast_34 ?_
  refine mc_Sa (As := [_, _]) F hM (cs_J8_inc l (by omega)) (va_cwS 2 F.1.2.2.2.2 (lw_S q1263 q1264 q84 q1265) rfl rfl rfl (by decide +kernel) (mRm_ok (by decide) (by decide))) rfl rfl hl.1 rfl (Nat.le_of_ble_eq_true rfl) dJ8_addLast_35 ⟨Nat.le_of_ble_eq_true rfl, Nat.le_of_ble_eq_true rfl⟩ (fun H locs hM => ?_)
  refine lv_dup_x1 F.1.1 F.1.2.1 dJ8_addLast_38 rfl rfl ?_
  refine cp10 F hM h_q 2 (by decide) q345 (fun x h => h) rfl rfl rfl (Nat.le_of_ble_eq_true rfl) dJ8_addLast_39 (fun H locs hM => ?_)
  have h_eb := nw_put hM (Ne.symm n_q_eb) h_eb
  have h_v := nw_put hM (Ne.symm n_q_v) h_v
  have h_q := nw_self hM
  refine mr_icmp_neN F (tgt := 50) dJ8_addLast_42 (by decide) (by omega) (by omega) (fun c42 => ?_) (fun c42 => ?_)
  · exact mr_vret F hQ hM ⟨rfl, rfl⟩ (Nat.le_of_ble_eq_true rfl) (Nat.le_of_ble_eq_true rfl) dJ8_addLast_50
  · exact absurd c42 hne
set_option maxHeartbeats 4000000 in
theorem cs_J8_init (l : Launch) {G : mG} {M0 : mM} {q : Nat} (h_q : M0 q = some (eO 10 [.null, .int 0, .int 0])) : mMet l yJ8_init (ws_ yJ8_init cJ8_init 1 none) (mRm 3 1 17) [.ref q] G (pPre M0) (fun _ ρ M1 => ρ = none ∧ ∃ eb, NewB M0 q M1 ∧ M0 eb = none ∧ M1 eb = some (eQ (G.2.1 4) 17 (fun _ => none)) ∧ M1 q = some (eO 10 [.ref eb, .int 0, .int 0])) := by
  refine mMet.of (by decide +kernel) (Nat.le_of_ble_eq_true rfl) fun p e s m args below meth c A Q M hM0 F hnm hQ hM ls hl => ?_
  have hM0 : M0 = M := hM0.symm
  subst hM0
  have hl : lv_has ls 1 [(0, .ref q)] := hl
  have hN : NewB M0 q M0 := fun a x h _ => h
  have hb0 := h_q
  refine lv_aload_n F.1.1 F.1.2.1 dJ8_init_0 rfl (lv_at hl 0 rfl) ?_
  refine mc_Iv (As := []) F hM (cs_J0_init l ) (cwI 0 F.1.2.2.2.2 (lw_meth q133) rfl rfl rfl (F.1.2.2.2.2 _ q72) (F.1.2.2.2.2 _ q340) (F.1.2.2.2.2 _ q132) rfl (by decide +kernel) (mRm_ok (by decide) (by decide))) rfl rfl hl.1 rfl (Nat.le_of_ble_eq_true rfl) dJ8_init_1 ⟨Nat.le_of_ble_eq_true rfl, Nat.le_of_ble_eq_true rfl⟩ (fun H locs hM => ?_)
  refine lv_aload_n F.1.1 F.1.2.1 dJ8_init_4 rfl (lv_at hl 0 rfl) ?_
  refine mr_bipush F 17 dJ8_init_5 (by decide +kernel) ?_
  refine mr_newQ F hM 4 q341 q342 rfl (Nat.le_of_ble_eq_true rfl) (Nat.le_of_ble_eq_true rfl) (Nat.le_of_ble_eq_true rfl) dJ8_init_7 (fun eb H hq_eb hM => ?_)
  have n_q_eb := kp_ne hq_eb h_q
  have h_q := nw_new hM hq_eb h_q
  have w_eb := nw_F hq_eb hN
  have z_eb := hN.none hb0 hq_eb
  have hb0 := nw_new hM hq_eb hb0
  have hN := nw_N hM hq_eb hN
  have h_eb := nw_self hM
  refine cp10 F hM h_q 0 (by decide) q343 (fun x h => h) rfl rfl rfl (Nat.le_of_ble_eq_true rfl) dJ8_init_10 (fun H locs hM => ?_)
  have h_eb := nw_put hM (Ne.symm n_q_eb) h_eb
  have hN := nw_NB hM hN
  have h_q := nw_self hM
  have hb0 := h_q
  exact mr_vret F hQ hM ⟨rfl, eb, hN, z_eb, h_eb, h_q⟩ (Nat.le_of_ble_eq_true rfl) (Nat.le_of_ble_eq_true rfl) dJ8_init_13
