/-! THE REFERENCE: an order of a text -/
set_option maxHeartbeats 40000000 in
theorem ct_part_tail {l : Launch} {G : mG} {ad : Nat → Nat} {g r : Nat → Int32} {f : Nat → UInt32} {h : tH} {b : Nat → Int32} {M0 : mM} {lb sp : Nat} {L : Int32} {p : Program} {e : Env} {s : State} {m : MethodId} {args : Array Value} {below : List Frame} {meth : Method} {c : Code} {A : Nat → Prop} {Q : State → Prop} (hd : tAd ad) (hl60 : lb ≤ 60) (F : mFx p m c cX7_part 3 s args yX7_part.cls meth none G A) (hQ : mEnd G (tM G ad g r f h b M0) s ((fun _ ρ M1 => ρ = none ∧ ∃ g1 : Nat → Int32, M1 = tM G ad g1 r f h b M0 ∧ tPg g g1 (tPart b lb L sp) L) (tM G ad g r f h b M0)) below args (mRm 4 0 0).cells (mRm 4 0 0).slots A Q) (g3 : Nat → Int32) (sp2 : Nat) (w2 : Bool) (a : Int32) (h1 : sp2 ≤ lb) (hk1 : ∀ k, k < 11 → g3 k = g k) (hlb3 : g3 9 = nI lb) (hsp3 : g3 11 = nI sp2) (hw3 : g3 12 = wI w2) (hL3 : g3 13 = L) (ha3 : g3 14 = a) (hs3 : g3 15 = nI 0) (ht3 : g3 16 = nI 0) (hP : tPart b lb L sp = tPt b lb L sp2 w2 a)
    (H : Heap) (locs : List Loc) (hM : mWd G A s.heap (tM G ad g3 r f h b M0) H locs) (ls : Array Slot) (hl : lv_has ls 3 [(0, .ref (ad 0)), (1, .int L)]) : W p l e (mRm 4 0 0) s m args below meth c H locs 0 0 Q (F0 m 119 ls []) := by
  refine lv_iload_n F.1.1 F.1.2.1 dX7_part_119 rfl (lv_at hl 1 rfl) ?_
  refine mr_bipush F 109 dX7_part_120 (by decide +kernel) ?_
  refine lv_icmp_ne (tgt := 152) F.1.1 F.1.2.1 dX7_part_122 (by decide) (fun c122 => ?_) (fun c122 => ?_)
  · refine lv_iload_n F.1.1 F.1.2.1 dX7_part_152 rfl (lv_at hl 1 rfl) ?_
    refine mr_bipush F 115 dX7_part_153 (by decide +kernel) ?_
    refine lv_icmp_ne (tgt := 180) F.1.1 F.1.2.1 dX7_part_155 (by decide) (fun c155 => ?_) (fun c155 => ?_)
    · refine lv_iload_n F.1.1 F.1.2.1 dX7_part_180 rfl (lv_at hl 1 rfl) ?_
      refine mr_bipush F 119 dX7_part_181 (by decide +kernel) ?_
      refine lv_icmp_eq (tgt := 198) F.1.1 F.1.2.1 dX7_part_183 (by decide) (fun c183 => ?_) (fun c183 => ?_)
      · have hd3 : L = nI 119 ∨ L = nI 114 ∨ L = nI 102 := Or.inl c183
        refine lv_aload_n F.1.1 F.1.2.1 dX7_part_198 rfl (lv_at hl 0 rfl) ?_
        refine mr_bipush F 46 dX7_part_199 (by decide +kernel) ?_
        refine mr_bipush F 46 dX7_part_201 (by decide +kernel) ?_
        refine mc_Va (As := [_, _]) F hM (ct_needs l hd (hsp3) (hlb3) hl60 h1 (hw3)) (cwV 2 F.1.2.2.2.2 (lw_V q2113 q2115 qs66 q88 q2116) rfl rfl rfl (by decide +kernel) (mRm_ok (by decide) (by decide))) (tM_0 hd) rfl rfl rfl rfl hl.1 rfl (Nat.le_of_ble_eq_true rfl) dX7_part_203 ⟨Nat.le_of_ble_eq_true rfl, Nat.le_of_ble_eq_true rfl⟩ (fun H locs hM => ?_)
        refine lv_istore_n (lv' := [(2, _), (0, _), (1, _)]) F.1.1 F.1.2.1 dX7_part_206 rfl hl (by decide) rfl (fun ls hl => ?_)
        refine lv_aload_n F.1.1 F.1.2.1 dX7_part_207 rfl (lv_at hl 1 rfl) ?_
        refine lv_aload_n F.1.1 F.1.2.1 dX7_part_208 rfl (lv_at hl 1 rfl) ?_
        refine mr_bipush F 48 dX7_part_209 (by decide +kernel) ?_
        refine lv_iload_n F.1.1 F.1.2.1 dX7_part_211 rfl (lv_at hl 2 rfl) ?_
        refine mr_bipush F 102 dX7_part_212 (by decide +kernel) ?_
        refine lv_icmp_ne (tgt := 222) F.1.1 F.1.2.1 dX7_part_214 (by decide) (fun c214 => ?_) (fun c214 => ?_)
        · refine mr_bipush F 50 dX7_part_222 (by decide +kernel) ?_
          refine mc_Va (As := [_, _]) F hM (ct_needs l hd (va_up_self _ _ _) ((va_up_ne _ _ (by decide)).trans ((va_up_ne _ _ (by decide)).trans (hlb3))) hl60 (tAdv_le h1 (by decide)) ((va_up_ne _ _ (by decide)).trans (va_up_self _ _ _))) (cwV 2 F.1.2.2.2.2 (lw_V q2113 q2115 qs66 q88 q2116) rfl rfl rfl (by decide +kernel) (mRm_ok (by decide) (by decide))) (tM_0 hd) rfl rfl rfl rfl hl.1 rfl (Nat.le_of_ble_eq_true rfl) dX7_part_224 ⟨Nat.le_of_ble_eq_true rfl, Nat.le_of_ble_eq_true rfl⟩ (fun H locs hM => ?_)
          refine mr_bipush F 48 dX7_part_227 (by decide +kernel) ?_
          refine lv_isub F.1.1 F.1.2.1 dX7_part_229 ?_
          refine tr_put F hd hM 15 (by decide) q1735 rfl rfl rfl (tw_s15 _ _ _) dX7_part_230 (fun H locs hM => ?_)
          refine lv_iload_n F.1.1 F.1.2.1 dX7_part_233 rfl (lv_at hl 2 rfl) ?_
          refine mr_bipush F 119 dX7_part_234 (by decide +kernel) ?_
          refine lv_icmp_ne (tgt := 259) F.1.1 F.1.2.1 dX7_part_236 (by decide) (fun c236 => ?_) (fun c236 => ?_)
          · refine lv_goto (tgt := 321) F.1.1 F.1.2.1 dX7_part_259 (by decide) ?_
            exact mr_vret F hQ hM ⟨rfl, _, rfl, by
                rw [hP]
                unfold tPt
                dsimp only
                simp only [if_neg c122, if_neg c155, if_pos hd3, if_neg c214, if_neg c236]
                exact ⟨fun k hk => by first | exact hk1 k hk | (simp (disch := omega) only [va_up_ne]; exact hk1 k hk), (va_up_ne _ _ (by decide)).trans (va_up_self _ _ _), (va_up_ne _ _ (by decide)).trans ((va_up_ne _ _ (by decide)).trans (va_up_self _ _ _)), (va_up_ne _ _ (by decide)).trans ((va_up_ne _ _ (by decide)).trans ((va_up_ne _ _ (by decide)).trans ((va_up_ne _ _ (by decide)).trans ((va_up_ne _ _ (by decide)).trans (hL3))))), (va_up_ne _ _ (by decide)).trans ((va_up_ne _ _ (by decide)).trans ((va_up_ne _ _ (by decide)).trans ((va_up_ne _ _ (by decide)).trans ((va_up_ne _ _ (by decide)).trans (ha3))))), va_up_self _ _ _, (va_up_ne _ _ (by decide)).trans ((va_up_ne _ _ (by decide)).trans ((va_up_ne _ _ (by decide)).trans ((va_up_ne _ _ (by decide)).trans ((va_up_ne _ _ (by decide)).trans (ht3)))))⟩⟩ (Nat.le_of_ble_eq_true rfl) (Nat.le_of_ble_eq_true rfl) dX7_part_321
          · refine lv_aload_n F.1.1 F.1.2.1 dX7_part_239 rfl (lv_at hl 1 rfl) ?_
            refine mr_bipush F 61 dX7_part_240 (by decide +kernel) ?_
            refine mr_bipush F 61 dX7_part_242 (by decide +kernel) ?_
            refine mc_Va (As := [_, _]) F hM (ct_needs l hd ((va_up_ne _ _ (by decide)).trans (va_up_self _ _ _)) ((va_up_ne _ _ (by decide)).trans ((va_up_ne _ _ (by decide)).trans ((va_up_ne _ _ (by decide)).trans ((va_up_ne _ _ (by decide)).trans ((va_up_ne _ _ (by decide)).trans (hlb3)))))) hl60 (tAdv_le (tAdv_le h1 (by decide)) (by decide)) ((va_up_ne _ _ (by decide)).trans ((va_up_ne _ _ (by decide)).trans (va_up_self _ _ _)))) (cwV 2 F.1.2.2.2.2 (lw_V q2113 q2115 qs66 q88 q2116) rfl rfl rfl (by decide +kernel) (mRm_ok (by decide) (by decide))) (tM_0 hd) rfl rfl rfl rfl hl.1 rfl (Nat.le_of_ble_eq_true rfl) dX7_part_244 ⟨Nat.le_of_ble_eq_true rfl, Nat.le_of_ble_eq_true rfl⟩ (fun H locs hM => ?_)
            refine lv_istore_n (lv' := [(2, _), (0, _), (1, _)]) F.1.1 F.1.2.1 dX7_part_247 rfl hl (by decide) rfl (fun ls hl => ?_)
            refine lv_aload_n F.1.1 F.1.2.1 dX7_part_248 rfl (lv_at hl 1 rfl) ?_
            refine lv_aload_n F.1.1 F.1.2.1 dX7_part_249 rfl (lv_at hl 1 rfl) ?_
            refine mr_sipush F 999 dX7_part_250 (by decide +kernel) ?_
            refine mc_Va (As := [_]) F hM (ct_number l hd (va_up_self _ _ _) ((va_up_ne _ _ (by decide)).trans ((va_up_ne _ _ (by decide)).trans ((va_up_ne _ _ (by decide)).trans ((va_up_ne _ _ (by decide)).trans ((va_up_ne _ _ (by decide)).trans ((va_up_ne _ _ (by decide)).trans ((va_up_ne _ _ (by decide)).trans (hlb3)))))))) hl60 (tAdv_le (tAdv_le (tAdv_le h1 (by decide)) (by decide)) (by decide)) ((va_up_ne _ _ (by decide)).trans (va_up_self _ _ _)) (by decide)) (cwV 1 F.1.2.2.2.2 (lw_V q2117 q2119 qs67 q88 q2120) rfl rfl rfl (by decide +kernel) (mRm_ok (by decide) (by decide))) (tM_0 hd) rfl rfl rfl rfl hl.1 rfl (Nat.le_of_ble_eq_true rfl) dX7_part_253 ⟨Nat.le_of_ble_eq_true rfl, Nat.le_of_ble_eq_true rfl⟩ (fun H locs hM => ?_)
            refine tr_put F hd hM 16 (by decide) q1736 rfl rfl rfl (tw_s16 _ _ _) dX7_part_256 (fun H locs hM => ?_)
            refine lv_goto (tgt := 321) F.1.1 F.1.2.1 dX7_part_259 (by decide) ?_
            exact mr_vret F hQ hM ⟨rfl, _, rfl, by
                rw [hP]
                unfold tPt
                dsimp only
                simp only [if_neg c122, if_neg c155, if_pos hd3, if_neg c214, if_pos c236]
                exact ⟨fun k hk => by first | exact hk1 k hk | (simp (disch := omega) only [va_up_ne]; exact hk1 k hk), (va_up_ne _ _ (by decide)).trans (va_up_self _ _ _), (va_up_ne _ _ (by decide)).trans ((va_up_ne _ _ (by decide)).trans (va_up_self _ _ _)), (va_up_ne _ _ (by decide)).trans ((va_up_ne _ _ (by decide)).trans ((va_up_ne _ _ (by decide)).trans ((va_up_ne _ _ (by decide)).trans ((va_up_ne _ _ (by decide)).trans ((va_up_ne _ _ (by decide)).trans ((va_up_ne _ _ (by decide)).trans ((va_up_ne _ _ (by decide)).trans ((va_up_ne _ _ (by decide)).trans ((va_up_ne _ _ (by decide)).trans (hL3)))))))))), (va_up_ne _ _ (by decide)).trans ((va_up_ne _ _ (by decide)).trans ((va_up_ne _ _ (by decide)).trans ((va_up_ne _ _ (by decide)).trans ((va_up_ne _ _ (by decide)).trans ((va_up_ne _ _ (by decide)).trans ((va_up_ne _ _ (by decide)).trans ((va_up_ne _ _ (by decide)).trans ((va_up_ne _ _ (by decide)).trans ((va_up_ne _ _ (by decide)).trans (ha3)))))))))), (va_up_ne _ _ (by decide)).trans ((va_up_ne _ _ (by decide)).trans ((va_up_ne _ _ (by decide)).trans ((va_up_ne _ _ (by decide)).trans ((va_up_ne _ _ (by decide)).trans (va_up_self _ _ _))))), va_up_self _ _ _⟩⟩ (Nat.le_of_ble_eq_true rfl) (Nat.le_of_ble_eq_true rfl) dX7_part_321
        · refine mr_bipush F 51 dX7_part_217 (by decide +kernel) ?_
          refine lv_goto (tgt := 224) F.1.1 F.1.2.1 dX7_part_219 (by decide) ?_
          refine mc_Va (As := [_, _]) F hM (ct_needs l hd (va_up_self _ _ _) ((va_up_ne _ _ (by decide)).trans ((va_up_ne _ _ (by decide)).trans (hlb3))) hl60 (tAdv_le h1 (by decide)) ((va_up_ne _ _ (by decide)).trans (va_up_self _ _ _))) (cwV 2 F.1.2.2.2.2 (lw_V q2113 q2115 qs66 q88 q2116) rfl rfl rfl (by decide +kernel) (mRm_ok (by decide) (by decide))) (tM_0 hd) rfl rfl rfl rfl hl.1 rfl (Nat.le_of_ble_eq_true rfl) dX7_part_224 ⟨Nat.le_of_ble_eq_true rfl, Nat.le_of_ble_eq_true rfl⟩ (fun H locs hM => ?_)
          refine mr_bipush F 48 dX7_part_227 (by decide +kernel) ?_
          refine lv_isub F.1.1 F.1.2.1 dX7_part_229 ?_
          refine tr_put F hd hM 15 (by decide) q1735 rfl rfl rfl (tw_s15 _ _ _) dX7_part_230 (fun H locs hM => ?_)
          refine lv_iload_n F.1.1 F.1.2.1 dX7_part_233 rfl (lv_at hl 2 rfl) ?_
          refine mr_bipush F 119 dX7_part_234 (by decide +kernel) ?_
          refine lv_icmp_ne (tgt := 259) F.1.1 F.1.2.1 dX7_part_236 (by decide) (fun c236 => ?_) (fun c236 => ?_)
          · refine lv_goto (tgt := 321) F.1.1 F.1.2.1 dX7_part_259 (by decide) ?_
            exact mr_vret F hQ hM ⟨rfl, _, rfl, by
                rw [hP]
                unfold tPt
                dsimp only
                simp only [if_neg c122, if_neg c155, if_pos hd3, if_pos c214, if_neg c236]
                exact ⟨fun k hk => by first | exact hk1 k hk | (simp (disch := omega) only [va_up_ne]; exact hk1 k hk), (va_up_ne _ _ (by decide)).trans (va_up_self _ _ _), (va_up_ne _ _ (by decide)).trans ((va_up_ne _ _ (by decide)).trans (va_up_self _ _ _)), (va_up_ne _ _ (by decide)).trans ((va_up_ne _ _ (by decide)).trans ((va_up_ne _ _ (by decide)).trans ((va_up_ne _ _ (by decide)).trans ((va_up_ne _ _ (by decide)).trans (hL3))))), (va_up_ne _ _ (by decide)).trans ((va_up_ne _ _ (by decide)).trans ((va_up_ne _ _ (by decide)).trans ((va_up_ne _ _ (by decide)).trans ((va_up_ne _ _ (by decide)).trans (ha3))))), va_up_self _ _ _, (va_up_ne _ _ (by decide)).trans ((va_up_ne _ _ (by decide)).trans ((va_up_ne _ _ (by decide)).trans ((va_up_ne _ _ (by decide)).trans ((va_up_ne _ _ (by decide)).trans (ht3)))))⟩⟩ (Nat.le_of_ble_eq_true rfl) (Nat.le_of_ble_eq_true rfl) dX7_part_321
          · refine lv_aload_n F.1.1 F.1.2.1 dX7_part_239 rfl (lv_at hl 1 rfl) ?_
            refine mr_bipush F 61 dX7_part_240 (by decide +kernel) ?_
            refine mr_bipush F 61 dX7_part_242 (by decide +kernel) ?_
            refine mc_Va (As := [_, _]) F hM (ct_needs l hd ((va_up_ne _ _ (by decide)).trans (va_up_self _ _ _)) ((va_up_ne _ _ (by decide)).trans ((va_up_ne _ _ (by decide)).trans ((va_up_ne _ _ (by decide)).trans ((va_up_ne _ _ (by decide)).trans ((va_up_ne _ _ (by decide)).trans (hlb3)))))) hl60 (tAdv_le (tAdv_le h1 (by decide)) (by decide)) ((va_up_ne _ _ (by decide)).trans ((va_up_ne _ _ (by decide)).trans (va_up_self _ _ _)))) (cwV 2 F.1.2.2.2.2 (lw_V q2113 q2115 qs66 q88 q2116) rfl rfl rfl (by decide +kernel) (mRm_ok (by decide) (by decide))) (tM_0 hd) rfl rfl rfl rfl hl.1 rfl (Nat.le_of_ble_eq_true rfl) dX7_part_244 ⟨Nat.le_of_ble_eq_true rfl, Nat.le_of_ble_eq_true rfl⟩ (fun H locs hM => ?_)
            refine lv_istore_n (lv' := [(2, _), (0, _), (1, _)]) F.1.1 F.1.2.1 dX7_part_247 rfl hl (by decide) rfl (fun ls hl => ?_)
            refine lv_aload_n F.1.1 F.1.2.1 dX7_part_248 rfl (lv_at hl 1 rfl) ?_
            refine lv_aload_n F.1.1 F.1.2.1 dX7_part_249 rfl (lv_at hl 1 rfl) ?_
            refine mr_sipush F 999 dX7_part_250 (by decide +kernel) ?_
            refine mc_Va (As := [_]) F hM (ct_number l hd (va_up_self _ _ _) ((va_up_ne _ _ (by decide)).trans ((va_up_ne _ _ (by decide)).trans ((va_up_ne _ _ (by decide)).trans ((va_up_ne _ _ (by decide)).trans ((va_up_ne _ _ (by decide)).trans ((va_up_ne _ _ (by decide)).trans ((va_up_ne _ _ (by decide)).trans (hlb3)))))))) hl60 (tAdv_le (tAdv_le (tAdv_le h1 (by decide)) (by decide)) (by decide)) ((va_up_ne _ _ (by decide)).trans (va_up_self _ _ _)) (by decide)) (cwV 1 F.1.2.2.2.2 (lw_V q2117 q2119 qs67 q88 q2120) rfl rfl rfl (by decide +kernel) (mRm_ok (by decide) (by decide))) (tM_0 hd) rfl rfl rfl rfl hl.1 rfl (Nat.le_of_ble_eq_true rfl) dX7_part_253 ⟨Nat.le_of_ble_eq_true rfl, Nat.le_of_ble_eq_true rfl⟩ (fun H locs hM => ?_)
            refine tr_put F hd hM 16 (by decide) q1736 rfl rfl rfl (tw_s16 _ _ _) dX7_part_256 (fun H locs hM => ?_)
            refine lv_goto (tgt := 321) F.1.1 F.1.2.1 dX7_part_259 (by decide) ?_
            exact mr_vret F hQ hM ⟨rfl, _, rfl, by
                rw [hP]
                unfold tPt
                dsimp only
                simp only [if_neg c122, if_neg c155, if_pos hd3, if_pos c214, if_pos c236]
                exact ⟨fun k hk => by first | exact hk1 k hk | (simp (disch := omega) only [va_up_ne]; exact hk1 k hk), (va_up_ne _ _ (by decide)).trans (va_up_self _ _ _), (va_up_ne _ _ (by decide)).trans ((va_up_ne _ _ (by decide)).trans (va_up_self _ _ _)), (va_up_ne _ _ (by decide)).trans ((va_up_ne _ _ (by decide)).trans ((va_up_ne _ _ (by decide)).trans ((va_up_ne _ _ (by decide)).trans ((va_up_ne _ _ (by decide)).trans ((va_up_ne _ _ (by decide)).trans ((va_up_ne _ _ (by decide)).trans ((va_up_ne _ _ (by decide)).trans ((va_up_ne _ _ (by decide)).trans ((va_up_ne _ _ (by decide)).trans (hL3)))))))))), (va_up_ne _ _ (by decide)).trans ((va_up_ne _ _ (by decide)).trans ((va_up_ne _ _ (by decide)).trans ((va_up_ne _ _ (by decide)).trans ((va_up_ne _ _ (by decide)).trans ((va_up_ne _ _ (by decide)).trans ((va_up_ne _ _ (by decide)).trans ((va_up_ne _ _ (by decide)).trans ((va_up_ne _ _ (by decide)).trans ((va_up_ne _ _ (by decide)).trans (ha3)))))))))), (va_up_ne _ _ (by decide)).trans ((va_up_ne _ _ (by decide)).trans ((va_up_ne _ _ (by decide)).trans ((va_up_ne _ _ (by decide)).trans ((va_up_ne _ _ (by decide)).trans (va_up_self _ _ _))))), va_up_self _ _ _⟩⟩ (Nat.le_of_ble_eq_true rfl) (Nat.le_of_ble_eq_true rfl) dX7_part_321
      · refine lv_iload_n F.1.1 F.1.2.1 dX7_part_186 rfl (lv_at hl 1 rfl) ?_
        refine mr_bipush F 114 dX7_part_187 (by decide +kernel) ?_
        refine lv_icmp_eq (tgt := 198) F.1.1 F.1.2.1 dX7_part_189 (by decide) (fun c189 => ?_) (fun c189 => ?_)
        · have hd3 : L = nI 119 ∨ L = nI 114 ∨ L = nI 102 := Or.inr (Or.inl c189)
          refine lv_aload_n F.1.1 F.1.2.1 dX7_part_198 rfl (lv_at hl 0 rfl) ?_
          refine mr_bipush F 46 dX7_part_199 (by decide +kernel) ?_
          refine mr_bipush F 46 dX7_part_201 (by decide +kernel) ?_
          refine mc_Va (As := [_, _]) F hM (ct_needs l hd (hsp3) (hlb3) hl60 h1 (hw3)) (cwV 2 F.1.2.2.2.2 (lw_V q2113 q2115 qs66 q88 q2116) rfl rfl rfl (by decide +kernel) (mRm_ok (by decide) (by decide))) (tM_0 hd) rfl rfl rfl rfl hl.1 rfl (Nat.le_of_ble_eq_true rfl) dX7_part_203 ⟨Nat.le_of_ble_eq_true rfl, Nat.le_of_ble_eq_true rfl⟩ (fun H locs hM => ?_)
          refine lv_istore_n (lv' := [(2, _), (0, _), (1, _)]) F.1.1 F.1.2.1 dX7_part_206 rfl hl (by decide) rfl (fun ls hl => ?_)
          refine lv_aload_n F.1.1 F.1.2.1 dX7_part_207 rfl (lv_at hl 1 rfl) ?_
          refine lv_aload_n F.1.1 F.1.2.1 dX7_part_208 rfl (lv_at hl 1 rfl) ?_
          refine mr_bipush F 48 dX7_part_209 (by decide +kernel) ?_
          refine lv_iload_n F.1.1 F.1.2.1 dX7_part_211 rfl (lv_at hl 2 rfl) ?_
          refine mr_bipush F 102 dX7_part_212 (by decide +kernel) ?_
          refine lv_icmp_ne (tgt := 222) F.1.1 F.1.2.1 dX7_part_214 (by decide) (fun c214 => ?_) (fun c214 => ?_)
          · refine mr_bipush F 50 dX7_part_222 (by decide +kernel) ?_
            refine mc_Va (As := [_, _]) F hM (ct_needs l hd (va_up_self _ _ _) ((va_up_ne _ _ (by decide)).trans ((va_up_ne _ _ (by decide)).trans (hlb3))) hl60 (tAdv_le h1 (by decide)) ((va_up_ne _ _ (by decide)).trans (va_up_self _ _ _))) (cwV 2 F.1.2.2.2.2 (lw_V q2113 q2115 qs66 q88 q2116) rfl rfl rfl (by decide +kernel) (mRm_ok (by decide) (by decide))) (tM_0 hd) rfl rfl rfl rfl hl.1 rfl (Nat.le_of_ble_eq_true rfl) dX7_part_224 ⟨Nat.le_of_ble_eq_true rfl, Nat.le_of_ble_eq_true rfl⟩ (fun H locs hM => ?_)
            refine mr_bipush F 48 dX7_part_227 (by decide +kernel) ?_
            refine lv_isub F.1.1 F.1.2.1 dX7_part_229 ?_
            refine tr_put F hd hM 15 (by decide) q1735 rfl rfl rfl (tw_s15 _ _ _) dX7_part_230 (fun H locs hM => ?_)
            refine lv_iload_n F.1.1 F.1.2.1 dX7_part_233 rfl (lv_at hl 2 rfl) ?_
            refine mr_bipush F 119 dX7_part_234 (by decide +kernel) ?_
            refine lv_icmp_ne (tgt := 259) F.1.1 F.1.2.1 dX7_part_236 (by decide) (fun c236 => ?_) (fun c236 => ?_)
            · refine lv_goto (tgt := 321) F.1.1 F.1.2.1 dX7_part_259 (by decide) ?_
              exact mr_vret F hQ hM ⟨rfl, _, rfl, by
                  rw [hP]
                  unfold tPt
                  dsimp only
                  simp only [if_neg c122, if_neg c155, if_pos hd3, if_neg c214, if_neg c236]
                  exact ⟨fun k hk => by first | exact hk1 k hk | (simp (disch := omega) only [va_up_ne]; exact hk1 k hk), (va_up_ne _ _ (by decide)).trans (va_up_self _ _ _), (va_up_ne _ _ (by decide)).trans ((va_up_ne _ _ (by decide)).trans (va_up_self _ _ _)), (va_up_ne _ _ (by decide)).trans ((va_up_ne _ _ (by decide)).trans ((va_up_ne _ _ (by decide)).trans ((va_up_ne _ _ (by decide)).trans ((va_up_ne _ _ (by decide)).trans (hL3))))), (va_up_ne _ _ (by decide)).trans ((va_up_ne _ _ (by decide)).trans ((va_up_ne _ _ (by decide)).trans ((va_up_ne _ _ (by decide)).trans ((va_up_ne _ _ (by decide)).trans (ha3))))), va_up_self _ _ _, (va_up_ne _ _ (by decide)).trans ((va_up_ne _ _ (by decide)).trans ((va_up_ne _ _ (by decide)).trans ((va_up_ne _ _ (by decide)).trans ((va_up_ne _ _ (by decide)).trans (ht3)))))⟩⟩ (Nat.le_of_ble_eq_true rfl) (Nat.le_of_ble_eq_true rfl) dX7_part_321
            · refine lv_aload_n F.1.1 F.1.2.1 dX7_part_239 rfl (lv_at hl 1 rfl) ?_
              refine mr_bipush F 61 dX7_part_240 (by decide +kernel) ?_
              refine mr_bipush F 61 dX7_part_242 (by decide +kernel) ?_
              refine mc_Va (As := [_, _]) F hM (ct_needs l hd ((va_up_ne _ _ (by decide)).trans (va_up_self _ _ _)) ((va_up_ne _ _ (by decide)).trans ((va_up_ne _ _ (by decide)).trans ((va_up_ne _ _ (by decide)).trans ((va_up_ne _ _ (by decide)).trans ((va_up_ne _ _ (by decide)).trans (hlb3)))))) hl60 (tAdv_le (tAdv_le h1 (by decide)) (by decide)) ((va_up_ne _ _ (by decide)).trans ((va_up_ne _ _ (by decide)).trans (va_up_self _ _ _)))) (cwV 2 F.1.2.2.2.2 (lw_V q2113 q2115 qs66 q88 q2116) rfl rfl rfl (by decide +kernel) (mRm_ok (by decide) (by decide))) (tM_0 hd) rfl rfl rfl rfl hl.1 rfl (Nat.le_of_ble_eq_true rfl) dX7_part_244 ⟨Nat.le_of_ble_eq_true rfl, Nat.le_of_ble_eq_true rfl⟩ (fun H locs hM => ?_)
              refine lv_istore_n (lv' := [(2, _), (0, _), (1, _)]) F.1.1 F.1.2.1 dX7_part_247 rfl hl (by decide) rfl (fun ls hl => ?_)
              refine lv_aload_n F.1.1 F.1.2.1 dX7_part_248 rfl (lv_at hl 1 rfl) ?_
              refine lv_aload_n F.1.1 F.1.2.1 dX7_part_249 rfl (lv_at hl 1 rfl) ?_
              refine mr_sipush F 999 dX7_part_250 (by decide +kernel) ?_
              refine mc_Va (As := [_]) F hM (ct_number l hd (va_up_self _ _ _) ((va_up_ne _ _ (by decide)).trans ((va_up_ne _ _ (by decide)).trans ((va_up_ne _ _ (by decide)).trans ((va_up_ne _ _ (by decide)).trans ((va_up_ne _ _ (by decide)).trans ((va_up_ne _ _ (by decide)).trans ((va_up_ne _ _ (by decide)).trans (hlb3)))))))) hl60 (tAdv_le (tAdv_le (tAdv_le h1 (by decide)) (by decide)) (by decide)) ((va_up_ne _ _ (by decide)).trans (va_up_self _ _ _)) (by decide)) (cwV 1 F.1.2.2.2.2 (lw_V q2117 q2119 qs67 q88 q2120) rfl rfl rfl (by decide +kernel) (mRm_ok (by decide) (by decide))) (tM_0 hd) rfl rfl rfl rfl hl.1 rfl (Nat.le_of_ble_eq_true rfl) dX7_part_253 ⟨Nat.le_of_ble_eq_true rfl, Nat.le_of_ble_eq_true rfl⟩ (fun H locs hM => ?_)
              refine tr_put F hd hM 16 (by decide) q1736 rfl rfl rfl (tw_s16 _ _ _) dX7_part_256 (fun H locs hM => ?_)
              refine lv_goto (tgt := 321) F.1.1 F.1.2.1 dX7_part_259 (by decide) ?_
              exact mr_vret F hQ hM ⟨rfl, _, rfl, by
                  rw [hP]
                  unfold tPt
                  dsimp only
                  simp only [if_neg c122, if_neg c155, if_pos hd3, if_neg c214, if_pos c236]
                  exact ⟨fun k hk => by first | exact hk1 k hk | (simp (disch := omega) only [va_up_ne]; exact hk1 k hk), (va_up_ne _ _ (by decide)).trans (va_up_self _ _ _), (va_up_ne _ _ (by decide)).trans ((va_up_ne _ _ (by decide)).trans (va_up_self _ _ _)), (va_up_ne _ _ (by decide)).trans ((va_up_ne _ _ (by decide)).trans ((va_up_ne _ _ (by decide)).trans ((va_up_ne _ _ (by decide)).trans ((va_up_ne _ _ (by decide)).trans ((va_up_ne _ _ (by decide)).trans ((va_up_ne _ _ (by decide)).trans ((va_up_ne _ _ (by decide)).trans ((va_up_ne _ _ (by decide)).trans ((va_up_ne _ _ (by decide)).trans (hL3)))))))))), (va_up_ne _ _ (by decide)).trans ((va_up_ne _ _ (by decide)).trans ((va_up_ne _ _ (by decide)).trans ((va_up_ne _ _ (by decide)).trans ((va_up_ne _ _ (by decide)).trans ((va_up_ne _ _ (by decide)).trans ((va_up_ne _ _ (by decide)).trans ((va_up_ne _ _ (by decide)).trans ((va_up_ne _ _ (by decide)).trans ((va_up_ne _ _ (by decide)).trans (ha3)))))))))), (va_up_ne _ _ (by decide)).trans ((va_up_ne _ _ (by decide)).trans ((va_up_ne _ _ (by decide)).trans ((va_up_ne _ _ (by decide)).trans ((va_up_ne _ _ (by decide)).trans (va_up_self _ _ _))))), va_up_self _ _ _⟩⟩ (Nat.le_of_ble_eq_true rfl) (Nat.le_of_ble_eq_true rfl) dX7_part_321
          · refine mr_bipush F 51 dX7_part_217 (by decide +kernel) ?_
            refine lv_goto (tgt := 224) F.1.1 F.1.2.1 dX7_part_219 (by decide) ?_
            refine mc_Va (As := [_, _]) F hM (ct_needs l hd (va_up_self _ _ _) ((va_up_ne _ _ (by decide)).trans ((va_up_ne _ _ (by decide)).trans (hlb3))) hl60 (tAdv_le h1 (by decide)) ((va_up_ne _ _ (by decide)).trans (va_up_self _ _ _))) (cwV 2 F.1.2.2.2.2 (lw_V q2113 q2115 qs66 q88 q2116) rfl rfl rfl (by decide +kernel) (mRm_ok (by decide) (by decide))) (tM_0 hd) rfl rfl rfl rfl hl.1 rfl (Nat.le_of_ble_eq_true rfl) dX7_part_224 ⟨Nat.le_of_ble_eq_true rfl, Nat.le_of_ble_eq_true rfl⟩ (fun H locs hM => ?_)
            refine mr_bipush F 48 dX7_part_227 (by decide +kernel) ?_
            refine lv_isub F.1.1 F.1.2.1 dX7_part_229 ?_
            refine tr_put F hd hM 15 (by decide) q1735 rfl rfl rfl (tw_s15 _ _ _) dX7_part_230 (fun H locs hM => ?_)
            refine lv_iload_n F.1.1 F.1.2.1 dX7_part_233 rfl (lv_at hl 2 rfl) ?_
            refine mr_bipush F 119 dX7_part_234 (by decide +kernel) ?_
            refine lv_icmp_ne (tgt := 259) F.1.1 F.1.2.1 dX7_part_236 (by decide) (fun c236 => ?_) (fun c236 => ?_)
            · refine lv_goto (tgt := 321) F.1.1 F.1.2.1 dX7_part_259 (by decide) ?_
              exact mr_vret F hQ hM ⟨rfl, _, rfl, by
                  rw [hP]
                  unfold tPt
                  dsimp only
                  simp only [if_neg c122, if_neg c155, if_pos hd3, if_pos c214, if_neg c236]
                  exact ⟨fun k hk => by first | exact hk1 k hk | (simp (disch := omega) only [va_up_ne]; exact hk1 k hk), (va_up_ne _ _ (by decide)).trans (va_up_self _ _ _), (va_up_ne _ _ (by decide)).trans ((va_up_ne _ _ (by decide)).trans (va_up_self _ _ _)), (va_up_ne _ _ (by decide)).trans ((va_up_ne _ _ (by decide)).trans ((va_up_ne _ _ (by decide)).trans ((va_up_ne _ _ (by decide)).trans ((va_up_ne _ _ (by decide)).trans (hL3))))), (va_up_ne _ _ (by decide)).trans ((va_up_ne _ _ (by decide)).trans ((va_up_ne _ _ (by decide)).trans ((va_up_ne _ _ (by decide)).trans ((va_up_ne _ _ (by decide)).trans (ha3))))), va_up_self _ _ _, (va_up_ne _ _ (by decide)).trans ((va_up_ne _ _ (by decide)).trans ((va_up_ne _ _ (by decide)).trans ((va_up_ne _ _ (by decide)).trans ((va_up_ne _ _ (by decide)).trans (ht3)))))⟩⟩ (Nat.le_of_ble_eq_true rfl) (Nat.le_of_ble_eq_true rfl) dX7_part_321
            · refine lv_aload_n F.1.1 F.1.2.1 dX7_part_239 rfl (lv_at hl 1 rfl) ?_
              refine mr_bipush F 61 dX7_part_240 (by decide +kernel) ?_
              refine mr_bipush F 61 dX7_part_242 (by decide +kernel) ?_
              refine mc_Va (As := [_, _]) F hM (ct_needs l hd ((va_up_ne _ _ (by decide)).trans (va_up_self _ _ _)) ((va_up_ne _ _ (by decide)).trans ((va_up_ne _ _ (by decide)).trans ((va_up_ne _ _ (by decide)).trans ((va_up_ne _ _ (by decide)).trans ((va_up_ne _ _ (by decide)).trans (hlb3)))))) hl60 (tAdv_le (tAdv_le h1 (by decide)) (by decide)) ((va_up_ne _ _ (by decide)).trans ((va_up_ne _ _ (by decide)).trans (va_up_self _ _ _)))) (cwV 2 F.1.2.2.2.2 (lw_V q2113 q2115 qs66 q88 q2116) rfl rfl rfl (by decide +kernel) (mRm_ok (by decide) (by decide))) (tM_0 hd) rfl rfl rfl rfl hl.1 rfl (Nat.le_of_ble_eq_true rfl) dX7_part_244 ⟨Nat.le_of_ble_eq_true rfl, Nat.le_of_ble_eq_true rfl⟩ (fun H locs hM => ?_)
              refine lv_istore_n (lv' := [(2, _), (0, _), (1, _)]) F.1.1 F.1.2.1 dX7_part_247 rfl hl (by decide) rfl (fun ls hl => ?_)
              refine lv_aload_n F.1.1 F.1.2.1 dX7_part_248 rfl (lv_at hl 1 rfl) ?_
              refine lv_aload_n F.1.1 F.1.2.1 dX7_part_249 rfl (lv_at hl 1 rfl) ?_
              refine mr_sipush F 999 dX7_part_250 (by decide +kernel) ?_
              refine mc_Va (As := [_]) F hM (ct_number l hd (va_up_self _ _ _) ((va_up_ne _ _ (by decide)).trans ((va_up_ne _ _ (by decide)).trans ((va_up_ne _ _ (by decide)).trans ((va_up_ne _ _ (by decide)).trans ((va_up_ne _ _ (by decide)).trans ((va_up_ne _ _ (by decide)).trans ((va_up_ne _ _ (by decide)).trans (hlb3)))))))) hl60 (tAdv_le (tAdv_le (tAdv_le h1 (by decide)) (by decide)) (by decide)) ((va_up_ne _ _ (by decide)).trans (va_up_self _ _ _)) (by decide)) (cwV 1 F.1.2.2.2.2 (lw_V q2117 q2119 qs67 q88 q2120) rfl rfl rfl (by decide +kernel) (mRm_ok (by decide) (by decide))) (tM_0 hd) rfl rfl rfl rfl hl.1 rfl (Nat.le_of_ble_eq_true rfl) dX7_part_253 ⟨Nat.le_of_ble_eq_true rfl, Nat.le_of_ble_eq_true rfl⟩ (fun H locs hM => ?_)
              refine tr_put F hd hM 16 (by decide) q1736 rfl rfl rfl (tw_s16 _ _ _) dX7_part_256 (fun H locs hM => ?_)
              refine lv_goto (tgt := 321) F.1.1 F.1.2.1 dX7_part_259 (by decide) ?_
              exact mr_vret F hQ hM ⟨rfl, _, rfl, by
                  rw [hP]
                  unfold tPt
                  dsimp only
                  simp only [if_neg c122, if_neg c155, if_pos hd3, if_pos c214, if_pos c236]
                  exact ⟨fun k hk => by first | exact hk1 k hk | (simp (disch := omega) only [va_up_ne]; exact hk1 k hk), (va_up_ne _ _ (by decide)).trans (va_up_self _ _ _), (va_up_ne _ _ (by decide)).trans ((va_up_ne _ _ (by decide)).trans (va_up_self _ _ _)), (va_up_ne _ _ (by decide)).trans ((va_up_ne _ _ (by decide)).trans ((va_up_ne _ _ (by decide)).trans ((va_up_ne _ _ (by decide)).trans ((va_up_ne _ _ (by decide)).trans ((va_up_ne _ _ (by decide)).trans ((va_up_ne _ _ (by decide)).trans ((va_up_ne _ _ (by decide)).trans ((va_up_ne _ _ (by decide)).trans ((va_up_ne _ _ (by decide)).trans (hL3)))))))))), (va_up_ne _ _ (by decide)).trans ((va_up_ne _ _ (by decide)).trans ((va_up_ne _ _ (by decide)).trans ((va_up_ne _ _ (by decide)).trans ((va_up_ne _ _ (by decide)).trans ((va_up_ne _ _ (by decide)).trans ((va_up_ne _ _ (by decide)).trans ((va_up_ne _ _ (by decide)).trans ((va_up_ne _ _ (by decide)).trans ((va_up_ne _ _ (by decide)).trans (ha3)))))))))), (va_up_ne _ _ (by decide)).trans ((va_up_ne _ _ (by decide)).trans ((va_up_ne _ _ (by decide)).trans ((va_up_ne _ _ (by decide)).trans ((va_up_ne _ _ (by decide)).trans (va_up_self _ _ _))))), va_up_self _ _ _⟩⟩ (Nat.le_of_ble_eq_true rfl) (Nat.le_of_ble_eq_true rfl) dX7_part_321
        · refine lv_iload_n F.1.1 F.1.2.1 dX7_part_192 rfl (lv_at hl 1 rfl) ?_
          refine mr_bipush F 102 dX7_part_193 (by decide +kernel) ?_
          refine lv_icmp_ne (tgt := 262) F.1.1 F.1.2.1 dX7_part_195 (by decide) (fun c195 => ?_) (fun c195 => ?_)
          · have hd3 : ¬ (L = nI 119 ∨ L = nI 114 ∨ L = nI 102) := fun q => q.elim c183 (fun q => q.elim c189 c195)
            refine lv_iload_n F.1.1 F.1.2.1 dX7_part_262 rfl (lv_at hl 1 rfl) ?_
            refine mr_bipush F 118 dX7_part_263 (by decide +kernel) ?_
            refine lv_icmp_ne (tgt := 321) F.1.1 F.1.2.1 dX7_part_265 (by decide) (fun c265 => ?_) (fun c265 => ?_)
            · exact mr_vret F hQ hM ⟨rfl, _, rfl, by
                  rw [hP]
                  unfold tPt
                  dsimp only
                  simp only [if_neg c122, if_neg c155, if_neg hd3, if_neg c265]
                  exact ⟨fun k hk => by first | exact hk1 k hk | (simp (disch := omega) only [va_up_ne]; exact hk1 k hk), hsp3, hw3, hL3, ha3, hs3, ht3⟩⟩ (Nat.le_of_ble_eq_true rfl) (Nat.le_of_ble_eq_true rfl) dX7_part_321
            · refine lv_aload_n F.1.1 F.1.2.1 dX7_part_268 rfl (lv_at hl 0 rfl) ?_
              refine lv_aload_n F.1.1 F.1.2.1 dX7_part_269 rfl (lv_at hl 0 rfl) ?_
              refine mc_Va (As := []) F hM (ct_sign l hd (hsp3) (hlb3) hl60 h1) (cwV 0 F.1.2.2.2.2 (lw_V q2105 q2107 qs64 q88 q2108) rfl rfl rfl (by decide +kernel) (mRm_ok (by decide) (by decide))) (tM_0 hd) rfl rfl rfl rfl hl.1 rfl (Nat.le_of_ble_eq_true rfl) dX7_part_270 ⟨Nat.le_of_ble_eq_true rfl, Nat.le_of_ble_eq_true rfl⟩ (fun H locs hM => ?_)
              refine mr_bipush F 43 dX7_part_273 (by decide +kernel) ?_
              refine lv_icmp_ne (tgt := 282) F.1.1 F.1.2.1 dX7_part_275 (by decide) (fun c275 => ?_) (fun c275 => ?_)
              · refine mr_iconst F 0 dX7_part_282 (by decide +kernel) ?_
                refine tr_put F hd hM 15 (by decide) q1735 rfl rfl rfl (tw_s15 _ _ _) dX7_part_283 (fun H locs hM => ?_)
                refine lv_aload_n F.1.1 F.1.2.1 dX7_part_286 rfl (lv_at hl 0 rfl) ?_
                refine lv_aload_n F.1.1 F.1.2.1 dX7_part_287 rfl (lv_at hl 0 rfl) ?_
                refine tr_get F hd hM 15 (by decide) q1735 (congrArg (fun z => some (Value.int z)) (rfl : _ = nI 0)) dX7_part_288 ?_
                refine mr_iconst F 1 dX7_part_291 (by decide +kernel) ?_
                refine mr_icmp_neN F (tgt := 300) dX7_part_292 (by decide) (by omega) (by omega) (fun c292 => ?_) (fun c292 => ?_)
                · refine mr_bipush F 45 dX7_part_300 (by decide +kernel) ?_
                  refine lv_aload_n F.1.1 F.1.2.1 dX7_part_302 rfl (lv_at hl 0 rfl) ?_
                  refine tr_get F hd hM 15 (by decide) q1735 (congrArg (fun z => some (Value.int z)) (rfl : _ = nI 0)) dX7_part_303 ?_
                  refine mr_iconst F 1 dX7_part_306 (by decide +kernel) ?_
                  refine mr_icmp_neN F (tgt := 315) dX7_part_307 (by decide) (by omega) (by omega) (fun c307 => ?_) (fun c307 => ?_)
                  · refine mr_bipush F 45 dX7_part_315 (by decide +kernel) ?_
                    refine mc_Va (As := [_, _]) F hM (ct_needs l hd ((va_up_ne _ _ (by decide)).trans (hsp3)) ((va_up_ne _ _ (by decide)).trans (hlb3)) hl60 h1 ((va_up_ne _ _ (by decide)).trans (hw3))) (cwV 2 F.1.2.2.2.2 (lw_V q2113 q2115 qs66 q88 q2116) rfl rfl rfl (by decide +kernel) (mRm_ok (by decide) (by decide))) (tM_0 hd) rfl rfl rfl rfl hl.1 rfl (Nat.le_of_ble_eq_true rfl) dX7_part_317 ⟨Nat.le_of_ble_eq_true rfl, Nat.le_of_ble_eq_true rfl⟩ (fun H locs hM => ?_)
                    refine lv_istore_n (lv' := [(2, _), (0, _), (1, _)]) F.1.1 F.1.2.1 dX7_part_320 rfl hl (by decide) rfl (fun ls hl => ?_)
                    exact mr_vret F hQ hM ⟨rfl, _, rfl, by
                        rw [hP]
                        unfold tPt
                        dsimp only
                        simp only [if_neg c122, if_neg c155, if_neg hd3, if_pos c265, if_neg c275]
                        exact ⟨fun k hk => by first | exact hk1 k hk | (simp (disch := omega) only [va_up_ne]; exact hk1 k hk), va_up_self _ _ _, (va_up_ne _ _ (by decide)).trans (va_up_self _ _ _), (va_up_ne _ _ (by decide)).trans ((va_up_ne _ _ (by decide)).trans ((va_up_ne _ _ (by decide)).trans (hL3))), (va_up_ne _ _ (by decide)).trans ((va_up_ne _ _ (by decide)).trans ((va_up_ne _ _ (by decide)).trans (ha3))), (va_up_ne _ _ (by decide)).trans ((va_up_ne _ _ (by decide)).trans (va_up_self _ _ _)), (va_up_ne _ _ (by decide)).trans ((va_up_ne _ _ (by decide)).trans ((va_up_ne _ _ (by decide)).trans (ht3)))⟩⟩ (Nat.le_of_ble_eq_true rfl) (Nat.le_of_ble_eq_true rfl) dX7_part_321
                  · exact absurd c307 (by decide)
                · exact absurd c292 (by decide)
              · refine mr_iconst F 1 dX7_part_278 (by decide +kernel) ?_
                refine lv_goto (tgt := 283) F.1.1 F.1.2.1 dX7_part_279 (by decide) ?_
                refine tr_put F hd hM 15 (by decide) q1735 rfl rfl rfl (tw_s15 _ _ _) dX7_part_283 (fun H locs hM => ?_)
                refine lv_aload_n F.1.1 F.1.2.1 dX7_part_286 rfl (lv_at hl 0 rfl) ?_
                refine lv_aload_n F.1.1 F.1.2.1 dX7_part_287 rfl (lv_at hl 0 rfl) ?_
                refine tr_get F hd hM 15 (by decide) q1735 (congrArg (fun z => some (Value.int z)) (rfl : _ = nI 1)) dX7_part_288 ?_
                refine mr_iconst F 1 dX7_part_291 (by decide +kernel) ?_
                refine mr_icmp_neN F (tgt := 300) dX7_part_292 (by decide) (by omega) (by omega) (fun c292 => ?_) (fun c292 => ?_)
                · exact absurd rfl c292
                · refine mr_bipush F 43 dX7_part_295 (by decide +kernel) ?_
                  refine lv_goto (tgt := 302) F.1.1 F.1.2.1 dX7_part_297 (by decide) ?_
                  refine lv_aload_n F.1.1 F.1.2.1 dX7_part_302 rfl (lv_at hl 0 rfl) ?_
                  refine tr_get F hd hM 15 (by decide) q1735 (congrArg (fun z => some (Value.int z)) (rfl : _ = nI 1)) dX7_part_303 ?_
                  refine mr_iconst F 1 dX7_part_306 (by decide +kernel) ?_
                  refine mr_icmp_neN F (tgt := 315) dX7_part_307 (by decide) (by omega) (by omega) (fun c307 => ?_) (fun c307 => ?_)
                  · exact absurd rfl c307
                  · refine mr_bipush F 43 dX7_part_310 (by decide +kernel) ?_
                    refine lv_goto (tgt := 317) F.1.1 F.1.2.1 dX7_part_312 (by decide) ?_
                    refine mc_Va (As := [_, _]) F hM (ct_needs l hd ((va_up_ne _ _ (by decide)).trans (hsp3)) ((va_up_ne _ _ (by decide)).trans (hlb3)) hl60 h1 ((va_up_ne _ _ (by decide)).trans (hw3))) (cwV 2 F.1.2.2.2.2 (lw_V q2113 q2115 qs66 q88 q2116) rfl rfl rfl (by decide +kernel) (mRm_ok (by decide) (by decide))) (tM_0 hd) rfl rfl rfl rfl hl.1 rfl (Nat.le_of_ble_eq_true rfl) dX7_part_317 ⟨Nat.le_of_ble_eq_true rfl, Nat.le_of_ble_eq_true rfl⟩ (fun H locs hM => ?_)
                    refine lv_istore_n (lv' := [(2, _), (0, _), (1, _)]) F.1.1 F.1.2.1 dX7_part_320 rfl hl (by decide) rfl (fun ls hl => ?_)
                    exact mr_vret F hQ hM ⟨rfl, _, rfl, by
                        rw [hP]
                        unfold tPt
                        dsimp only
                        simp only [if_neg c122, if_neg c155, if_neg hd3, if_pos c265, if_pos c275]
                        exact ⟨fun k hk => by first | exact hk1 k hk | (simp (disch := omega) only [va_up_ne]; exact hk1 k hk), va_up_self _ _ _, (va_up_ne _ _ (by decide)).trans (va_up_self _ _ _), (va_up_ne _ _ (by decide)).trans ((va_up_ne _ _ (by decide)).trans ((va_up_ne _ _ (by decide)).trans (hL3))), (va_up_ne _ _ (by decide)).trans ((va_up_ne _ _ (by decide)).trans ((va_up_ne _ _ (by decide)).trans (ha3))), (va_up_ne _ _ (by decide)).trans ((va_up_ne _ _ (by decide)).trans (va_up_self _ _ _)), (va_up_ne _ _ (by decide)).trans ((va_up_ne _ _ (by decide)).trans ((va_up_ne _ _ (by decide)).trans (ht3)))⟩⟩ (Nat.le_of_ble_eq_true rfl) (Nat.le_of_ble_eq_true rfl) dX7_part_321
          · have hd3 : L = nI 119 ∨ L = nI 114 ∨ L = nI 102 := Or.inr (Or.inr c195)
            refine lv_aload_n F.1.1 F.1.2.1 dX7_part_198 rfl (lv_at hl 0 rfl) ?_
            refine mr_bipush F 46 dX7_part_199 (by decide +kernel) ?_
            refine mr_bipush F 46 dX7_part_201 (by decide +kernel) ?_
            refine mc_Va (As := [_, _]) F hM (ct_needs l hd (hsp3) (hlb3) hl60 h1 (hw3)) (cwV 2 F.1.2.2.2.2 (lw_V q2113 q2115 qs66 q88 q2116) rfl rfl rfl (by decide +kernel) (mRm_ok (by decide) (by decide))) (tM_0 hd) rfl rfl rfl rfl hl.1 rfl (Nat.le_of_ble_eq_true rfl) dX7_part_203 ⟨Nat.le_of_ble_eq_true rfl, Nat.le_of_ble_eq_true rfl⟩ (fun H locs hM => ?_)
            refine lv_istore_n (lv' := [(2, _), (0, _), (1, _)]) F.1.1 F.1.2.1 dX7_part_206 rfl hl (by decide) rfl (fun ls hl => ?_)
            refine lv_aload_n F.1.1 F.1.2.1 dX7_part_207 rfl (lv_at hl 1 rfl) ?_
            refine lv_aload_n F.1.1 F.1.2.1 dX7_part_208 rfl (lv_at hl 1 rfl) ?_
            refine mr_bipush F 48 dX7_part_209 (by decide +kernel) ?_
            refine lv_iload_n F.1.1 F.1.2.1 dX7_part_211 rfl (lv_at hl 2 rfl) ?_
            refine mr_bipush F 102 dX7_part_212 (by decide +kernel) ?_
            refine lv_icmp_ne (tgt := 222) F.1.1 F.1.2.1 dX7_part_214 (by decide) (fun c214 => ?_) (fun c214 => ?_)
            · refine mr_bipush F 50 dX7_part_222 (by decide +kernel) ?_
              refine mc_Va (As := [_, _]) F hM (ct_needs l hd (va_up_self _ _ _) ((va_up_ne _ _ (by decide)).trans ((va_up_ne _ _ (by decide)).trans (hlb3))) hl60 (tAdv_le h1 (by decide)) ((va_up_ne _ _ (by decide)).trans (va_up_self _ _ _))) (cwV 2 F.1.2.2.2.2 (lw_V q2113 q2115 qs66 q88 q2116) rfl rfl rfl (by decide +kernel) (mRm_ok (by decide) (by decide))) (tM_0 hd) rfl rfl rfl rfl hl.1 rfl (Nat.le_of_ble_eq_true rfl) dX7_part_224 ⟨Nat.le_of_ble_eq_true rfl, Nat.le_of_ble_eq_true rfl⟩ (fun H locs hM => ?_)
              refine mr_bipush F 48 dX7_part_227 (by decide +kernel) ?_
              refine lv_isub F.1.1 F.1.2.1 dX7_part_229 ?_
              refine tr_put F hd hM 15 (by decide) q1735 rfl rfl rfl (tw_s15 _ _ _) dX7_part_230 (fun H locs hM => ?_)
              refine lv_iload_n F.1.1 F.1.2.1 dX7_part_233 rfl (lv_at hl 2 rfl) ?_
              refine mr_bipush F 119 dX7_part_234 (by decide +kernel) ?_
              refine lv_icmp_ne (tgt := 259) F.1.1 F.1.2.1 dX7_part_236 (by decide) (fun c236 => ?_) (fun c236 => ?_)
              · refine lv_goto (tgt := 321) F.1.1 F.1.2.1 dX7_part_259 (by decide) ?_
                exact mr_vret F hQ hM ⟨rfl, _, rfl, by
                    rw [hP]
                    unfold tPt
                    dsimp only
                    simp only [if_neg c122, if_neg c155, if_pos hd3, if_neg c214, if_neg c236]
                    exact ⟨fun k hk => by first | exact hk1 k hk | (simp (disch := omega) only [va_up_ne]; exact hk1 k hk), (va_up_ne _ _ (by decide)).trans (va_up_self _ _ _), (va_up_ne _ _ (by decide)).trans ((va_up_ne _ _ (by decide)).trans (va_up_self _ _ _)), (va_up_ne _ _ (by decide)).trans ((va_up_ne _ _ (by decide)).trans ((va_up_ne _ _ (by decide)).trans ((va_up_ne _ _ (by decide)).trans ((va_up_ne _ _ (by decide)).trans (hL3))))), (va_up_ne _ _ (by decide)).trans ((va_up_ne _ _ (by decide)).trans ((va_up_ne _ _ (by decide)).trans ((va_up_ne _ _ (by decide)).trans ((va_up_ne _ _ (by decide)).trans (ha3))))), va_up_self _ _ _, (va_up_ne _ _ (by decide)).trans ((va_up_ne _ _ (by decide)).trans ((va_up_ne _ _ (by decide)).trans ((va_up_ne _ _ (by decide)).trans ((va_up_ne _ _ (by decide)).trans (ht3)))))⟩⟩ (Nat.le_of_ble_eq_true rfl) (Nat.le_of_ble_eq_true rfl) dX7_part_321
              · refine lv_aload_n F.1.1 F.1.2.1 dX7_part_239 rfl (lv_at hl 1 rfl) ?_
                refine mr_bipush F 61 dX7_part_240 (by decide +kernel) ?_
                refine mr_bipush F 61 dX7_part_242 (by decide +kernel) ?_
                refine mc_Va (As := [_, _]) F hM (ct_needs l hd ((va_up_ne _ _ (by decide)).trans (va_up_self _ _ _)) ((va_up_ne _ _ (by decide)).trans ((va_up_ne _ _ (by decide)).trans ((va_up_ne _ _ (by decide)).trans ((va_up_ne _ _ (by decide)).trans ((va_up_ne _ _ (by decide)).trans (hlb3)))))) hl60 (tAdv_le (tAdv_le h1 (by decide)) (by decide)) ((va_up_ne _ _ (by decide)).trans ((va_up_ne _ _ (by decide)).trans (va_up_self _ _ _)))) (cwV 2 F.1.2.2.2.2 (lw_V q2113 q2115 qs66 q88 q2116) rfl rfl rfl (by decide +kernel) (mRm_ok (by decide) (by decide))) (tM_0 hd) rfl rfl rfl rfl hl.1 rfl (Nat.le_of_ble_eq_true rfl) dX7_part_244 ⟨Nat.le_of_ble_eq_true rfl, Nat.le_of_ble_eq_true rfl⟩ (fun H locs hM => ?_)
                refine lv_istore_n (lv' := [(2, _), (0, _), (1, _)]) F.1.1 F.1.2.1 dX7_part_247 rfl hl (by decide) rfl (fun ls hl => ?_)
                refine lv_aload_n F.1.1 F.1.2.1 dX7_part_248 rfl (lv_at hl 1 rfl) ?_
                refine lv_aload_n F.1.1 F.1.2.1 dX7_part_249 rfl (lv_at hl 1 rfl) ?_
                refine mr_sipush F 999 dX7_part_250 (by decide +kernel) ?_
                refine mc_Va (As := [_]) F hM (ct_number l hd (va_up_self _ _ _) ((va_up_ne _ _ (by decide)).trans ((va_up_ne _ _ (by decide)).trans ((va_up_ne _ _ (by decide)).trans ((va_up_ne _ _ (by decide)).trans ((va_up_ne _ _ (by decide)).trans ((va_up_ne _ _ (by decide)).trans ((va_up_ne _ _ (by decide)).trans (hlb3)))))))) hl60 (tAdv_le (tAdv_le (tAdv_le h1 (by decide)) (by decide)) (by decide)) ((va_up_ne _ _ (by decide)).trans (va_up_self _ _ _)) (by decide)) (cwV 1 F.1.2.2.2.2 (lw_V q2117 q2119 qs67 q88 q2120) rfl rfl rfl (by decide +kernel) (mRm_ok (by decide) (by decide))) (tM_0 hd) rfl rfl rfl rfl hl.1 rfl (Nat.le_of_ble_eq_true rfl) dX7_part_253 ⟨Nat.le_of_ble_eq_true rfl, Nat.le_of_ble_eq_true rfl⟩ (fun H locs hM => ?_)
                refine tr_put F hd hM 16 (by decide) q1736 rfl rfl rfl (tw_s16 _ _ _) dX7_part_256 (fun H locs hM => ?_)
                refine lv_goto (tgt := 321) F.1.1 F.1.2.1 dX7_part_259 (by decide) ?_
                exact mr_vret F hQ hM ⟨rfl, _, rfl, by
                    rw [hP]
                    unfold tPt
                    dsimp only
                    simp only [if_neg c122, if_neg c155, if_pos hd3, if_neg c214, if_pos c236]
                    exact ⟨fun k hk => by first | exact hk1 k hk | (simp (disch := omega) only [va_up_ne]; exact hk1 k hk), (va_up_ne _ _ (by decide)).trans (va_up_self _ _ _), (va_up_ne _ _ (by decide)).trans ((va_up_ne _ _ (by decide)).trans (va_up_self _ _ _)), (va_up_ne _ _ (by decide)).trans ((va_up_ne _ _ (by decide)).trans ((va_up_ne _ _ (by decide)).trans ((va_up_ne _ _ (by decide)).trans ((va_up_ne _ _ (by decide)).trans ((va_up_ne _ _ (by decide)).trans ((va_up_ne _ _ (by decide)).trans ((va_up_ne _ _ (by decide)).trans ((va_up_ne _ _ (by decide)).trans ((va_up_ne _ _ (by decide)).trans (hL3)))))))))), (va_up_ne _ _ (by decide)).trans ((va_up_ne _ _ (by decide)).trans ((va_up_ne _ _ (by decide)).trans ((va_up_ne _ _ (by decide)).trans ((va_up_ne _ _ (by decide)).trans ((va_up_ne _ _ (by decide)).trans ((va_up_ne _ _ (by decide)).trans ((va_up_ne _ _ (by decide)).trans ((va_up_ne _ _ (by decide)).trans ((va_up_ne _ _ (by decide)).trans (ha3)))))))))), (va_up_ne _ _ (by decide)).trans ((va_up_ne _ _ (by decide)).trans ((va_up_ne _ _ (by decide)).trans ((va_up_ne _ _ (by decide)).trans ((va_up_ne _ _ (by decide)).trans (va_up_self _ _ _))))), va_up_self _ _ _⟩⟩ (Nat.le_of_ble_eq_true rfl) (Nat.le_of_ble_eq_true rfl) dX7_part_321
            · refine mr_bipush F 51 dX7_part_217 (by decide +kernel) ?_
              refine lv_goto (tgt := 224) F.1.1 F.1.2.1 dX7_part_219 (by decide) ?_
              refine mc_Va (As := [_, _]) F hM (ct_needs l hd (va_up_self _ _ _) ((va_up_ne _ _ (by decide)).trans ((va_up_ne _ _ (by decide)).trans (hlb3))) hl60 (tAdv_le h1 (by decide)) ((va_up_ne _ _ (by decide)).trans (va_up_self _ _ _))) (cwV 2 F.1.2.2.2.2 (lw_V q2113 q2115 qs66 q88 q2116) rfl rfl rfl (by decide +kernel) (mRm_ok (by decide) (by decide))) (tM_0 hd) rfl rfl rfl rfl hl.1 rfl (Nat.le_of_ble_eq_true rfl) dX7_part_224 ⟨Nat.le_of_ble_eq_true rfl, Nat.le_of_ble_eq_true rfl⟩ (fun H locs hM => ?_)
              refine mr_bipush F 48 dX7_part_227 (by decide +kernel) ?_
              refine lv_isub F.1.1 F.1.2.1 dX7_part_229 ?_
              refine tr_put F hd hM 15 (by decide) q1735 rfl rfl rfl (tw_s15 _ _ _) dX7_part_230 (fun H locs hM => ?_)
              refine lv_iload_n F.1.1 F.1.2.1 dX7_part_233 rfl (lv_at hl 2 rfl) ?_
              refine mr_bipush F 119 dX7_part_234 (by decide +kernel) ?_
              refine lv_icmp_ne (tgt := 259) F.1.1 F.1.2.1 dX7_part_236 (by decide) (fun c236 => ?_) (fun c236 => ?_)
              · refine lv_goto (tgt := 321) F.1.1 F.1.2.1 dX7_part_259 (by decide) ?_
                exact mr_vret F hQ hM ⟨rfl, _, rfl, by
                    rw [hP]
                    unfold tPt
                    dsimp only
                    simp only [if_neg c122, if_neg c155, if_pos hd3, if_pos c214, if_neg c236]
                    exact ⟨fun k hk => by first | exact hk1 k hk | (simp (disch := omega) only [va_up_ne]; exact hk1 k hk), (va_up_ne _ _ (by decide)).trans (va_up_self _ _ _), (va_up_ne _ _ (by decide)).trans ((va_up_ne _ _ (by decide)).trans (va_up_self _ _ _)), (va_up_ne _ _ (by decide)).trans ((va_up_ne _ _ (by decide)).trans ((va_up_ne _ _ (by decide)).trans ((va_up_ne _ _ (by decide)).trans ((va_up_ne _ _ (by decide)).trans (hL3))))), (va_up_ne _ _ (by decide)).trans ((va_up_ne _ _ (by decide)).trans ((va_up_ne _ _ (by decide)).trans ((va_up_ne _ _ (by decide)).trans ((va_up_ne _ _ (by decide)).trans (ha3))))), va_up_self _ _ _, (va_up_ne _ _ (by decide)).trans ((va_up_ne _ _ (by decide)).trans ((va_up_ne _ _ (by decide)).trans ((va_up_ne _ _ (by decide)).trans ((va_up_ne _ _ (by decide)).trans (ht3)))))⟩⟩ (Nat.le_of_ble_eq_true rfl) (Nat.le_of_ble_eq_true rfl) dX7_part_321
              · refine lv_aload_n F.1.1 F.1.2.1 dX7_part_239 rfl (lv_at hl 1 rfl) ?_
                refine mr_bipush F 61 dX7_part_240 (by decide +kernel) ?_
                refine mr_bipush F 61 dX7_part_242 (by decide +kernel) ?_
                refine mc_Va (As := [_, _]) F hM (ct_needs l hd ((va_up_ne _ _ (by decide)).trans (va_up_self _ _ _)) ((va_up_ne _ _ (by decide)).trans ((va_up_ne _ _ (by decide)).trans ((va_up_ne _ _ (by decide)).trans ((va_up_ne _ _ (by decide)).trans ((va_up_ne _ _ (by decide)).trans (hlb3)))))) hl60 (tAdv_le (tAdv_le h1 (by decide)) (by decide)) ((va_up_ne _ _ (by decide)).trans ((va_up_ne _ _ (by decide)).trans (va_up_self _ _ _)))) (cwV 2 F.1.2.2.2.2 (lw_V q2113 q2115 qs66 q88 q2116) rfl rfl rfl (by decide +kernel) (mRm_ok (by decide) (by decide))) (tM_0 hd) rfl rfl rfl rfl hl.1 rfl (Nat.le_of_ble_eq_true rfl) dX7_part_244 ⟨Nat.le_of_ble_eq_true rfl, Nat.le_of_ble_eq_true rfl⟩ (fun H locs hM => ?_)
                refine lv_istore_n (lv' := [(2, _), (0, _), (1, _)]) F.1.1 F.1.2.1 dX7_part_247 rfl hl (by decide) rfl (fun ls hl => ?_)
                refine lv_aload_n F.1.1 F.1.2.1 dX7_part_248 rfl (lv_at hl 1 rfl) ?_
                refine lv_aload_n F.1.1 F.1.2.1 dX7_part_249 rfl (lv_at hl 1 rfl) ?_
                refine mr_sipush F 999 dX7_part_250 (by decide +kernel) ?_
                refine mc_Va (As := [_]) F hM (ct_number l hd (va_up_self _ _ _) ((va_up_ne _ _ (by decide)).trans ((va_up_ne _ _ (by decide)).trans ((va_up_ne _ _ (by decide)).trans ((va_up_ne _ _ (by decide)).trans ((va_up_ne _ _ (by decide)).trans ((va_up_ne _ _ (by decide)).trans ((va_up_ne _ _ (by decide)).trans (hlb3)))))))) hl60 (tAdv_le (tAdv_le (tAdv_le h1 (by decide)) (by decide)) (by decide)) ((va_up_ne _ _ (by decide)).trans (va_up_self _ _ _)) (by decide)) (cwV 1 F.1.2.2.2.2 (lw_V q2117 q2119 qs67 q88 q2120) rfl rfl rfl (by decide +kernel) (mRm_ok (by decide) (by decide))) (tM_0 hd) rfl rfl rfl rfl hl.1 rfl (Nat.le_of_ble_eq_true rfl) dX7_part_253 ⟨Nat.le_of_ble_eq_true rfl, Nat.le_of_ble_eq_true rfl⟩ (fun H locs hM => ?_)
                refine tr_put F hd hM 16 (by decide) q1736 rfl rfl rfl (tw_s16 _ _ _) dX7_part_256 (fun H locs hM => ?_)
                refine lv_goto (tgt := 321) F.1.1 F.1.2.1 dX7_part_259 (by decide) ?_
                exact mr_vret F hQ hM ⟨rfl, _, rfl, by
                    rw [hP]
                    unfold tPt
                    dsimp only
                    simp only [if_neg c122, if_neg c155, if_pos hd3, if_pos c214, if_pos c236]
                    exact ⟨fun k hk => by first | exact hk1 k hk | (simp (disch := omega) only [va_up_ne]; exact hk1 k hk), (va_up_ne _ _ (by decide)).trans (va_up_self _ _ _), (va_up_ne _ _ (by decide)).trans ((va_up_ne _ _ (by decide)).trans (va_up_self _ _ _)), (va_up_ne _ _ (by decide)).trans ((va_up_ne _ _ (by decide)).trans ((va_up_ne _ _ (by decide)).trans ((va_up_ne _ _ (by decide)).trans ((va_up_ne _ _ (by decide)).trans ((va_up_ne _ _ (by decide)).trans ((va_up_ne _ _ (by decide)).trans ((va_up_ne _ _ (by decide)).trans ((va_up_ne _ _ (by decide)).trans ((va_up_ne _ _ (by decide)).trans (hL3)))))))))), (va_up_ne _ _ (by decide)).trans ((va_up_ne _ _ (by decide)).trans ((va_up_ne _ _ (by decide)).trans ((va_up_ne _ _ (by decide)).trans ((va_up_ne _ _ (by decide)).trans ((va_up_ne _ _ (by decide)).trans ((va_up_ne _ _ (by decide)).trans ((va_up_ne _ _ (by decide)).trans ((va_up_ne _ _ (by decide)).trans ((va_up_ne _ _ (by decide)).trans (ha3)))))))))), (va_up_ne _ _ (by decide)).trans ((va_up_ne _ _ (by decide)).trans ((va_up_ne _ _ (by decide)).trans ((va_up_ne _ _ (by decide)).trans ((va_up_ne _ _ (by decide)).trans (va_up_self _ _ _))))), va_up_self _ _ _⟩⟩ (Nat.le_of_ble_eq_true rfl) (Nat.le_of_ble_eq_true rfl) dX7_part_321
    · refine lv_aload_n F.1.1 F.1.2.1 dX7_part_158 rfl (lv_at hl 0 rfl) ?_
      refine mr_bipush F 58 dX7_part_159 (by decide +kernel) ?_
      refine mr_bipush F 58 dX7_part_161 (by decide +kernel) ?_
      refine mc_Va (As := [_, _]) F hM (ct_needs l hd (hsp3) (hlb3) hl60 h1 (hw3)) (cwV 2 F.1.2.2.2.2 (lw_V q2113 q2115 qs66 q88 q2116) rfl rfl rfl (by decide +kernel) (mRm_ok (by decide) (by decide))) (tM_0 hd) rfl rfl rfl rfl hl.1 rfl (Nat.le_of_ble_eq_true rfl) dX7_part_163 ⟨Nat.le_of_ble_eq_true rfl, Nat.le_of_ble_eq_true rfl⟩ (fun H locs hM => ?_)
      refine lv_istore_n (lv' := [(2, _), (0, _), (1, _)]) F.1.1 F.1.2.1 dX7_part_166 rfl hl (by decide) rfl (fun ls hl => ?_)
      refine lv_aload_n F.1.1 F.1.2.1 dX7_part_167 rfl (lv_at hl 1 rfl) ?_
      refine lv_aload_n F.1.1 F.1.2.1 dX7_part_168 rfl (lv_at hl 1 rfl) ?_
      refine mr_bipush F 39 dX7_part_169 (by decide +kernel) ?_
      refine mc_Va (As := [_]) F hM (ct_number l hd (va_up_self _ _ _) ((va_up_ne _ _ (by decide)).trans ((va_up_ne _ _ (by decide)).trans (hlb3))) hl60 (tAdv_le h1 (by decide)) ((va_up_ne _ _ (by decide)).trans (va_up_self _ _ _)) (by decide)) (cwV 1 F.1.2.2.2.2 (lw_V q2117 q2119 qs67 q88 q2120) rfl rfl rfl (by decide +kernel) (mRm_ok (by decide) (by decide))) (tM_0 hd) rfl rfl rfl rfl hl.1 rfl (Nat.le_of_ble_eq_true rfl) dX7_part_171 ⟨Nat.le_of_ble_eq_true rfl, Nat.le_of_ble_eq_true rfl⟩ (fun H locs hM => ?_)
      refine tr_put F hd hM 15 (by decide) q1735 rfl rfl rfl (tw_s15 _ _ _) dX7_part_174 (fun H locs hM => ?_)
      refine lv_goto (tgt := 321) F.1.1 F.1.2.1 dX7_part_177 (by decide) ?_
      exact mr_vret F hQ hM ⟨rfl, _, rfl, by
          rw [hP]
          unfold tPt
          dsimp only
          simp only [if_neg c122, if_pos c155]
          exact ⟨fun k hk => by first | exact hk1 k hk | (simp (disch := omega) only [va_up_ne]; exact hk1 k hk), (va_up_ne _ _ (by decide)).trans (va_up_self _ _ _), (va_up_ne _ _ (by decide)).trans ((va_up_ne _ _ (by decide)).trans (va_up_self _ _ _)), (va_up_ne _ _ (by decide)).trans ((va_up_ne _ _ (by decide)).trans ((va_up_ne _ _ (by decide)).trans ((va_up_ne _ _ (by decide)).trans ((va_up_ne _ _ (by decide)).trans (hL3))))), (va_up_ne _ _ (by decide)).trans ((va_up_ne _ _ (by decide)).trans ((va_up_ne _ _ (by decide)).trans ((va_up_ne _ _ (by decide)).trans ((va_up_ne _ _ (by decide)).trans (ha3))))), va_up_self _ _ _, (va_up_ne _ _ (by decide)).trans ((va_up_ne _ _ (by decide)).trans ((va_up_ne _ _ (by decide)).trans ((va_up_ne _ _ (by decide)).trans ((va_up_ne _ _ (by decide)).trans (ht3)))))⟩⟩ (Nat.le_of_ble_eq_true rfl) (Nat.le_of_ble_eq_true rfl) dX7_part_321
  · refine lv_aload_n F.1.1 F.1.2.1 dX7_part_125 rfl (lv_at hl 0 rfl) ?_
    refine mr_bipush F 61 dX7_part_126 (by decide +kernel) ?_
    refine mr_bipush F 61 dX7_part_128 (by decide +kernel) ?_
    refine mc_Va (As := [_, _]) F hM (ct_needs l hd (hsp3) (hlb3) hl60 h1 (hw3)) (cwV 2 F.1.2.2.2.2 (lw_V q2113 q2115 qs66 q88 q2116) rfl rfl rfl (by decide +kernel) (mRm_ok (by decide) (by decide))) (tM_0 hd) rfl rfl rfl rfl hl.1 rfl (Nat.le_of_ble_eq_true rfl) dX7_part_130 ⟨Nat.le_of_ble_eq_true rfl, Nat.le_of_ble_eq_true rfl⟩ (fun H locs hM => ?_)
    refine lv_istore_n (lv' := [(2, _), (0, _), (1, _)]) F.1.1 F.1.2.1 dX7_part_133 rfl hl (by decide) rfl (fun ls hl => ?_)
    refine lv_aload_n F.1.1 F.1.2.1 dX7_part_134 rfl (lv_at hl 1 rfl) ?_
    refine lv_aload_n F.1.1 F.1.2.1 dX7_part_135 rfl (lv_at hl 1 rfl) ?_
    refine mr_bipush F 48 dX7_part_136 (by decide +kernel) ?_
    refine mr_bipush F 53 dX7_part_138 (by decide +kernel) ?_
    refine mc_Va (As := [_, _]) F hM (ct_needs l hd (va_up_self _ _ _) ((va_up_ne _ _ (by decide)).trans ((va_up_ne _ _ (by decide)).trans (hlb3))) hl60 (tAdv_le h1 (by decide)) ((va_up_ne _ _ (by decide)).trans (va_up_self _ _ _))) (cwV 2 F.1.2.2.2.2 (lw_V q2113 q2115 qs66 q88 q2116) rfl rfl rfl (by decide +kernel) (mRm_ok (by decide) (by decide))) (tM_0 hd) rfl rfl rfl rfl hl.1 rfl (Nat.le_of_ble_eq_true rfl) dX7_part_140 ⟨Nat.le_of_ble_eq_true rfl, Nat.le_of_ble_eq_true rfl⟩ (fun H locs hM => ?_)
    refine mr_bipush F 48 dX7_part_143 (by decide +kernel) ?_
    refine lv_isub F.1.1 F.1.2.1 dX7_part_145 ?_
    refine tr_put F hd hM 15 (by decide) q1735 rfl rfl rfl (tw_s15 _ _ _) dX7_part_146 (fun H locs hM => ?_)
    refine lv_goto (tgt := 321) F.1.1 F.1.2.1 dX7_part_149 (by decide) ?_
    exact mr_vret F hQ hM ⟨rfl, _, rfl, by
        rw [hP]
        unfold tPt
        dsimp only
        simp only [if_pos c122]
        exact ⟨fun k hk => by first | exact hk1 k hk | (simp (disch := omega) only [va_up_ne]; exact hk1 k hk), (va_up_ne _ _ (by decide)).trans (va_up_self _ _ _), (va_up_ne _ _ (by decide)).trans ((va_up_ne _ _ (by decide)).trans (va_up_self _ _ _)), (va_up_ne _ _ (by decide)).trans ((va_up_ne _ _ (by decide)).trans ((va_up_ne _ _ (by decide)).trans ((va_up_ne _ _ (by decide)).trans ((va_up_ne _ _ (by decide)).trans (hL3))))), (va_up_ne _ _ (by decide)).trans ((va_up_ne _ _ (by decide)).trans ((va_up_ne _ _ (by decide)).trans ((va_up_ne _ _ (by decide)).trans ((va_up_ne _ _ (by decide)).trans (ha3))))), va_up_self _ _ _, (va_up_ne _ _ (by decide)).trans ((va_up_ne _ _ (by decide)).trans ((va_up_ne _ _ (by decide)).trans ((va_up_ne _ _ (by decide)).trans ((va_up_ne _ _ (by decide)).trans (ht3)))))⟩⟩ (Nat.le_of_ble_eq_true rfl) (Nat.le_of_ble_eq_true rfl) dX7_part_321
set_option maxHeartbeats 4000000 in
theorem ct_part (l : Launch) {G : mG} {ad : Nat → Nat} {g r : Nat → Int32} {f : Nat → UInt32} {h : tH} {b : Nat → Int32} {M0 : mM} {lb sp : Nat} {L : Int32} (hd : tAd ad) (hsp : g 11 = nI sp) (hlb : g 9 = nI lb) (hl60 : lb ≤ 60) (hspl : sp ≤ lb) (hL : L = tSg b lb sp) : mMet l yX7_part (ws_ yX7_part cX7_part 3 none) (mRm 4 0 0) [.ref (ad 0), .int L] G (pPre (tM G ad g r f h b M0)) (fun _ ρ M1 => ρ = none ∧ ∃ g1 : Nat → Int32, M1 = tM G ad g1 r f h b M0 ∧ tPg g g1 (tPart b lb L sp) L) := by
  refine mMet.of (by decide +kernel) (Nat.le_of_ble_eq_true rfl) fun p e s m args below meth c A Q M hM0 F hnm hQ hM ls hl => ?_
  have hM0 : M = tM G ad g r f h b M0 := hM0
  subst hM0
  have hl : lv_has ls 3 [(0, .ref (ad 0)), (1, .int L)] := hl
  have h1 := tP1_le hspl hL
  have jn : ∀ (H : Heap) (locs : List Loc), mWd G A s.heap (tM G ad (va_up (va_up g 12 (wI (tP1 L))) 11 (nI (tAdv (tP1 L) sp))) r f h b M0) H locs → ∀ ls : Array Slot, lv_has ls 3 [(0, .ref (ad 0)), (1, .int L)] → W p l e (mRm 4 0 0) s m args below meth c H locs 0 0 Q (F0 m 78 ls []) := by
    intro H locs hM ls hl
    refine lv_aload_n F.1.1 F.1.2.1 dX7_part_78 rfl (lv_at hl 0 rfl) ?_
    refine lv_iload_n F.1.1 F.1.2.1 dX7_part_79 rfl (lv_at hl 1 rfl) ?_
    refine tr_put F hd hM 13 (by decide) q1733 rfl rfl rfl (tw_s13 _ _ _) dX7_part_80 (fun H locs hM => ?_)
    refine lv_aload_n F.1.1 F.1.2.1 dX7_part_83 rfl (lv_at hl 0 rfl) ?_
    refine lv_aload_n F.1.1 F.1.2.1 dX7_part_84 rfl (lv_at hl 0 rfl) ?_
    refine mr_bipush F 48 dX7_part_85 (by decide +kernel) ?_
    refine lv_iload_n F.1.1 F.1.2.1 dX7_part_87 rfl (lv_at hl 1 rfl) ?_
    refine mr_bipush F 99 dX7_part_88 (by decide +kernel) ?_
    refine lv_icmp_ne (tgt := 98) F.1.1 F.1.2.1 dX7_part_90 (by decide) (fun c90 => ?_) (fun c90 => ?_)
    · refine mr_bipush F 51 dX7_part_98 (by decide +kernel) ?_
      refine mc_Va (As := [_, _]) F hM (ct_needs l hd ((va_up_ne _ _ (by decide)).trans (va_up_self _ _ _)) ((va_up_ne _ _ (by decide)).trans ((va_up_ne _ _ (by decide)).trans ((va_up_ne _ _ (by decide)).trans hlb))) hl60 h1 ((va_up_ne _ _ (by decide)).trans ((va_up_ne _ _ (by decide)).trans (va_up_self _ _ _)))) (cwV 2 F.1.2.2.2.2 (lw_V q2113 q2115 qs66 q88 q2116) rfl rfl rfl (by decide +kernel) (mRm_ok (by decide) (by decide))) (tM_0 hd) rfl rfl rfl rfl hl.1 rfl (Nat.le_of_ble_eq_true rfl) dX7_part_100 ⟨Nat.le_of_ble_eq_true rfl, Nat.le_of_ble_eq_true rfl⟩ (fun H locs hM => ?_)
      refine mr_bipush F 48 dX7_part_103 (by decide +kernel) ?_
      refine lv_isub F.1.1 F.1.2.1 dX7_part_105 ?_
      refine tr_put F hd hM 14 (by decide) q1734 rfl rfl rfl (tw_s14 _ _ _) dX7_part_106 (fun H locs hM => ?_)
      refine lv_aload_n F.1.1 F.1.2.1 dX7_part_109 rfl (lv_at hl 0 rfl) ?_
      refine mr_iconst F 0 dX7_part_110 (by decide +kernel) ?_
      refine tr_put F hd hM 15 (by decide) q1735 rfl rfl rfl (tw_s15 _ _ _) dX7_part_111 (fun H locs hM => ?_)
      refine lv_aload_n F.1.1 F.1.2.1 dX7_part_114 rfl (lv_at hl 0 rfl) ?_
      refine mr_iconst F 0 dX7_part_115 (by decide +kernel) ?_
      refine tr_put F hd hM 16 (by decide) q1736 rfl rfl rfl (tw_s16 _ _ _) dX7_part_116 (fun H locs hM => ?_)
      refine ct_part_tail hd hl60 F hQ _ (tAdv (tNd b lb (nI 48) (nI 51) (tAdv (tP1 L) sp) (tP1 L)) (tAdv (tP1 L) sp)) (tNd b lb (nI 48) (nI 51) (tAdv (tP1 L) sp) (tP1 L)) (tSg b lb (tAdv (tP1 L) sp) - nI 48) ?_ ?_ ?_ ?_ ?_ ?_ ?_ ?_ ?_ ?_ _ _ hM _ hl
      rotate_left 3
      · exact (va_up_ne _ _ (by decide)).trans ((va_up_ne _ _ (by decide)).trans ((va_up_ne _ _ (by decide)).trans (va_up_self _ _ _)))
      · exact (va_up_ne _ _ (by decide)).trans ((va_up_ne _ _ (by decide)).trans ((va_up_ne _ _ (by decide)).trans ((va_up_ne _ _ (by decide)).trans (va_up_self _ _ _))))
      · exact (va_up_ne _ _ (by decide)).trans ((va_up_ne _ _ (by decide)).trans ((va_up_ne _ _ (by decide)).trans ((va_up_ne _ _ (by decide)).trans ((va_up_ne _ _ (by decide)).trans (va_up_self _ _ _)))))
      · exact (va_up_ne _ _ (by decide)).trans ((va_up_ne _ _ (by decide)).trans (va_up_self _ _ _))
      · exact (va_up_ne _ _ (by decide)).trans (va_up_self _ _ _)
      · exact va_up_self _ _ _
      · rw [tPart_eq]
        simp only [if_neg c90]
      · exact tAdv_le h1 (by decide)
      · exact fun k hk => by simp (disch := omega) only [va_up_ne]
      · exact hlb
    · refine mr_bipush F 53 dX7_part_93 (by decide +kernel) ?_
      refine lv_goto (tgt := 100) F.1.1 F.1.2.1 dX7_part_95 (by decide) ?_
      refine mc_Va (As := [_, _]) F hM (ct_needs l hd ((va_up_ne _ _ (by decide)).trans (va_up_self _ _ _)) ((va_up_ne _ _ (by decide)).trans ((va_up_ne _ _ (by decide)).trans ((va_up_ne _ _ (by decide)).trans hlb))) hl60 h1 ((va_up_ne _ _ (by decide)).trans ((va_up_ne _ _ (by decide)).trans (va_up_self _ _ _)))) (cwV 2 F.1.2.2.2.2 (lw_V q2113 q2115 qs66 q88 q2116) rfl rfl rfl (by decide +kernel) (mRm_ok (by decide) (by decide))) (tM_0 hd) rfl rfl rfl rfl hl.1 rfl (Nat.le_of_ble_eq_true rfl) dX7_part_100 ⟨Nat.le_of_ble_eq_true rfl, Nat.le_of_ble_eq_true rfl⟩ (fun H locs hM => ?_)
      refine mr_bipush F 48 dX7_part_103 (by decide +kernel) ?_
      refine lv_isub F.1.1 F.1.2.1 dX7_part_105 ?_
      refine tr_put F hd hM 14 (by decide) q1734 rfl rfl rfl (tw_s14 _ _ _) dX7_part_106 (fun H locs hM => ?_)
      refine lv_aload_n F.1.1 F.1.2.1 dX7_part_109 rfl (lv_at hl 0 rfl) ?_
      refine mr_iconst F 0 dX7_part_110 (by decide +kernel) ?_
      refine tr_put F hd hM 15 (by decide) q1735 rfl rfl rfl (tw_s15 _ _ _) dX7_part_111 (fun H locs hM => ?_)
      refine lv_aload_n F.1.1 F.1.2.1 dX7_part_114 rfl (lv_at hl 0 rfl) ?_
      refine mr_iconst F 0 dX7_part_115 (by decide +kernel) ?_
      refine tr_put F hd hM 16 (by decide) q1736 rfl rfl rfl (tw_s16 _ _ _) dX7_part_116 (fun H locs hM => ?_)
      refine ct_part_tail hd hl60 F hQ _ (tAdv (tNd b lb (nI 48) (nI 53) (tAdv (tP1 L) sp) (tP1 L)) (tAdv (tP1 L) sp)) (tNd b lb (nI 48) (nI 53) (tAdv (tP1 L) sp) (tP1 L)) (tSg b lb (tAdv (tP1 L) sp) - nI 48) ?_ ?_ ?_ ?_ ?_ ?_ ?_ ?_ ?_ ?_ _ _ hM _ hl
      rotate_left 3
      · exact (va_up_ne _ _ (by decide)).trans ((va_up_ne _ _ (by decide)).trans ((va_up_ne _ _ (by decide)).trans (va_up_self _ _ _)))
      · exact (va_up_ne _ _ (by decide)).trans ((va_up_ne _ _ (by decide)).trans ((va_up_ne _ _ (by decide)).trans ((va_up_ne _ _ (by decide)).trans (va_up_self _ _ _))))
      · exact (va_up_ne _ _ (by decide)).trans ((va_up_ne _ _ (by decide)).trans ((va_up_ne _ _ (by decide)).trans ((va_up_ne _ _ (by decide)).trans ((va_up_ne _ _ (by decide)).trans (va_up_self _ _ _)))))
      · exact (va_up_ne _ _ (by decide)).trans ((va_up_ne _ _ (by decide)).trans (va_up_self _ _ _))
      · exact (va_up_ne _ _ (by decide)).trans (va_up_self _ _ _)
      · exact va_up_self _ _ _
      · rw [tPart_eq]
        simp only [if_pos c90]
      · exact tAdv_le h1 (by decide)
      · exact fun k hk => by simp (disch := omega) only [va_up_ne]
      · exact hlb
  refine lv_aload_n F.1.1 F.1.2.1 dX7_part_0 rfl (lv_at hl 0 rfl) ?_
  refine lv_iload_n F.1.1 F.1.2.1 dX7_part_1 rfl (lv_at hl 1 rfl) ?_
  refine mr_bipush F 109 dX7_part_2 (by decide +kernel) ?_
  refine lv_icmp_eq (tgt := 49) F.1.1 F.1.2.1 dX7_part_4 (by decide) (fun c4 => ?_) (fun c4 => ?_)
  · have hp : tP1 L = true := by rw [c4]; decide
    refine mr_iconst F 1 dX7_part_49 (by decide +kernel) ?_
    refine lv_goto (tgt := 54) F.1.1 F.1.2.1 dX7_part_50 (by decide) ?_
    refine tr_put F hd hM 12 (by decide) q1732 rfl (by first | rfl | exact nZ_bI _) (by first | rfl | exact fZ_bI _) (tw_s12 _ _ _) dX7_part_54 (fun H locs hM => ?_)
    refine lv_aload_n F.1.1 F.1.2.1 dX7_part_57 rfl (lv_at hl 0 rfl) ?_
    refine lv_dup F.1.1 F.1.2.1 dX7_part_58 rfl ?_
    refine tr_get F hd hM 11 (by decide) q1731 (congrArg (fun z => some (Value.int z)) ((va_up_ne _ _ (by decide)).trans hsp)) dX7_part_59 ?_
    refine lv_aload_n F.1.1 F.1.2.1 dX7_part_62 rfl (lv_at hl 0 rfl) ?_
    refine tr_get F hd hM 12 (by decide) q1732 (congrArg (fun z => some (Value.int z)) (va_up_self _ _ _)) dX7_part_63 ?_
    refine mr_ifeqN F (tgt := 73) dX7_part_66 (by decide) (by omega) (fun c66 => ?_) (fun c66 => ?_)
    · exact absurd c66 (by decide)
    · refine mr_iconst F 1 dX7_part_69 (by decide +kernel) ?_
      refine lv_goto (tgt := 74) F.1.1 F.1.2.1 dX7_part_70 (by decide) ?_
      refine mr_iaddN F dX7_part_74 ?_
      refine tr_put F hd hM 11 (by decide) q1731 rfl rfl rfl (tw_s11 _ _ _) dX7_part_75 (fun H locs hM => ?_)
      exact jn _ _ (by rw [hp]; exact hM) _ hl
  · refine lv_iload_n F.1.1 F.1.2.1 dX7_part_7 rfl (lv_at hl 1 rfl) ?_
    refine mr_bipush F 117 dX7_part_8 (by decide +kernel) ?_
    refine lv_icmp_eq (tgt := 49) F.1.1 F.1.2.1 dX7_part_10 (by decide) (fun c10 => ?_) (fun c10 => ?_)
    · have hp : tP1 L = true := by rw [c10]; decide
      refine mr_iconst F 1 dX7_part_49 (by decide +kernel) ?_
      refine lv_goto (tgt := 54) F.1.1 F.1.2.1 dX7_part_50 (by decide) ?_
      refine tr_put F hd hM 12 (by decide) q1732 rfl (by first | rfl | exact nZ_bI _) (by first | rfl | exact fZ_bI _) (tw_s12 _ _ _) dX7_part_54 (fun H locs hM => ?_)
      refine lv_aload_n F.1.1 F.1.2.1 dX7_part_57 rfl (lv_at hl 0 rfl) ?_
      refine lv_dup F.1.1 F.1.2.1 dX7_part_58 rfl ?_
      refine tr_get F hd hM 11 (by decide) q1731 (congrArg (fun z => some (Value.int z)) ((va_up_ne _ _ (by decide)).trans hsp)) dX7_part_59 ?_
      refine lv_aload_n F.1.1 F.1.2.1 dX7_part_62 rfl (lv_at hl 0 rfl) ?_
      refine tr_get F hd hM 12 (by decide) q1732 (congrArg (fun z => some (Value.int z)) (va_up_self _ _ _)) dX7_part_63 ?_
      refine mr_ifeqN F (tgt := 73) dX7_part_66 (by decide) (by omega) (fun c66 => ?_) (fun c66 => ?_)
      · exact absurd c66 (by decide)
      · refine mr_iconst F 1 dX7_part_69 (by decide +kernel) ?_
        refine lv_goto (tgt := 74) F.1.1 F.1.2.1 dX7_part_70 (by decide) ?_
        refine mr_iaddN F dX7_part_74 ?_
        refine tr_put F hd hM 11 (by decide) q1731 rfl rfl rfl (tw_s11 _ _ _) dX7_part_75 (fun H locs hM => ?_)
        exact jn _ _ (by rw [hp]; exact hM) _ hl
    · refine lv_iload_n F.1.1 F.1.2.1 dX7_part_13 rfl (lv_at hl 1 rfl) ?_
      refine mr_bipush F 115 dX7_part_14 (by decide +kernel) ?_
      refine lv_icmp_eq (tgt := 49) F.1.1 F.1.2.1 dX7_part_16 (by decide) (fun c16 => ?_) (fun c16 => ?_)
      · have hp : tP1 L = true := by rw [c16]; decide
        refine mr_iconst F 1 dX7_part_49 (by decide +kernel) ?_
        refine lv_goto (tgt := 54) F.1.1 F.1.2.1 dX7_part_50 (by decide) ?_
        refine tr_put F hd hM 12 (by decide) q1732 rfl (by first | rfl | exact nZ_bI _) (by first | rfl | exact fZ_bI _) (tw_s12 _ _ _) dX7_part_54 (fun H locs hM => ?_)
        refine lv_aload_n F.1.1 F.1.2.1 dX7_part_57 rfl (lv_at hl 0 rfl) ?_
        refine lv_dup F.1.1 F.1.2.1 dX7_part_58 rfl ?_
        refine tr_get F hd hM 11 (by decide) q1731 (congrArg (fun z => some (Value.int z)) ((va_up_ne _ _ (by decide)).trans hsp)) dX7_part_59 ?_
        refine lv_aload_n F.1.1 F.1.2.1 dX7_part_62 rfl (lv_at hl 0 rfl) ?_
        refine tr_get F hd hM 12 (by decide) q1732 (congrArg (fun z => some (Value.int z)) (va_up_self _ _ _)) dX7_part_63 ?_
        refine mr_ifeqN F (tgt := 73) dX7_part_66 (by decide) (by omega) (fun c66 => ?_) (fun c66 => ?_)
        · exact absurd c66 (by decide)
        · refine mr_iconst F 1 dX7_part_69 (by decide +kernel) ?_
          refine lv_goto (tgt := 74) F.1.1 F.1.2.1 dX7_part_70 (by decide) ?_
          refine mr_iaddN F dX7_part_74 ?_
          refine tr_put F hd hM 11 (by decide) q1731 rfl rfl rfl (tw_s11 _ _ _) dX7_part_75 (fun H locs hM => ?_)
          exact jn _ _ (by rw [hp]; exact hM) _ hl
      · refine lv_iload_n F.1.1 F.1.2.1 dX7_part_19 rfl (lv_at hl 1 rfl) ?_
        refine mr_bipush F 119 dX7_part_20 (by decide +kernel) ?_
        refine lv_icmp_eq (tgt := 49) F.1.1 F.1.2.1 dX7_part_22 (by decide) (fun c22 => ?_) (fun c22 => ?_)
        · have hp : tP1 L = true := by rw [c22]; decide
          refine mr_iconst F 1 dX7_part_49 (by decide +kernel) ?_
          refine lv_goto (tgt := 54) F.1.1 F.1.2.1 dX7_part_50 (by decide) ?_
          refine tr_put F hd hM 12 (by decide) q1732 rfl (by first | rfl | exact nZ_bI _) (by first | rfl | exact fZ_bI _) (tw_s12 _ _ _) dX7_part_54 (fun H locs hM => ?_)
          refine lv_aload_n F.1.1 F.1.2.1 dX7_part_57 rfl (lv_at hl 0 rfl) ?_
          refine lv_dup F.1.1 F.1.2.1 dX7_part_58 rfl ?_
          refine tr_get F hd hM 11 (by decide) q1731 (congrArg (fun z => some (Value.int z)) ((va_up_ne _ _ (by decide)).trans hsp)) dX7_part_59 ?_
          refine lv_aload_n F.1.1 F.1.2.1 dX7_part_62 rfl (lv_at hl 0 rfl) ?_
          refine tr_get F hd hM 12 (by decide) q1732 (congrArg (fun z => some (Value.int z)) (va_up_self _ _ _)) dX7_part_63 ?_
          refine mr_ifeqN F (tgt := 73) dX7_part_66 (by decide) (by omega) (fun c66 => ?_) (fun c66 => ?_)
          · exact absurd c66 (by decide)
          · refine mr_iconst F 1 dX7_part_69 (by decide +kernel) ?_
            refine lv_goto (tgt := 74) F.1.1 F.1.2.1 dX7_part_70 (by decide) ?_
            refine mr_iaddN F dX7_part_74 ?_
            refine tr_put F hd hM 11 (by decide) q1731 rfl rfl rfl (tw_s11 _ _ _) dX7_part_75 (fun H locs hM => ?_)
            exact jn _ _ (by rw [hp]; exact hM) _ hl
        · refine lv_iload_n F.1.1 F.1.2.1 dX7_part_25 rfl (lv_at hl 1 rfl) ?_
          refine mr_bipush F 114 dX7_part_26 (by decide +kernel) ?_
          refine lv_icmp_eq (tgt := 49) F.1.1 F.1.2.1 dX7_part_28 (by decide) (fun c28 => ?_) (fun c28 => ?_)
          · have hp : tP1 L = true := by rw [c28]; decide
            refine mr_iconst F 1 dX7_part_49 (by decide +kernel) ?_
            refine lv_goto (tgt := 54) F.1.1 F.1.2.1 dX7_part_50 (by decide) ?_
            refine tr_put F hd hM 12 (by decide) q1732 rfl (by first | rfl | exact nZ_bI _) (by first | rfl | exact fZ_bI _) (tw_s12 _ _ _) dX7_part_54 (fun H locs hM => ?_)
            refine lv_aload_n F.1.1 F.1.2.1 dX7_part_57 rfl (lv_at hl 0 rfl) ?_
            refine lv_dup F.1.1 F.1.2.1 dX7_part_58 rfl ?_
            refine tr_get F hd hM 11 (by decide) q1731 (congrArg (fun z => some (Value.int z)) ((va_up_ne _ _ (by decide)).trans hsp)) dX7_part_59 ?_
            refine lv_aload_n F.1.1 F.1.2.1 dX7_part_62 rfl (lv_at hl 0 rfl) ?_
            refine tr_get F hd hM 12 (by decide) q1732 (congrArg (fun z => some (Value.int z)) (va_up_self _ _ _)) dX7_part_63 ?_
            refine mr_ifeqN F (tgt := 73) dX7_part_66 (by decide) (by omega) (fun c66 => ?_) (fun c66 => ?_)
            · exact absurd c66 (by decide)
            · refine mr_iconst F 1 dX7_part_69 (by decide +kernel) ?_
              refine lv_goto (tgt := 74) F.1.1 F.1.2.1 dX7_part_70 (by decide) ?_
              refine mr_iaddN F dX7_part_74 ?_
              refine tr_put F hd hM 11 (by decide) q1731 rfl rfl rfl (tw_s11 _ _ _) dX7_part_75 (fun H locs hM => ?_)
              exact jn _ _ (by rw [hp]; exact hM) _ hl
          · refine lv_iload_n F.1.1 F.1.2.1 dX7_part_31 rfl (lv_at hl 1 rfl) ?_
            refine mr_bipush F 118 dX7_part_32 (by decide +kernel) ?_
            refine lv_icmp_eq (tgt := 49) F.1.1 F.1.2.1 dX7_part_34 (by decide) (fun c34 => ?_) (fun c34 => ?_)
            · have hp : tP1 L = true := by rw [c34]; decide
              refine mr_iconst F 1 dX7_part_49 (by decide +kernel) ?_
              refine lv_goto (tgt := 54) F.1.1 F.1.2.1 dX7_part_50 (by decide) ?_
              refine tr_put F hd hM 12 (by decide) q1732 rfl (by first | rfl | exact nZ_bI _) (by first | rfl | exact fZ_bI _) (tw_s12 _ _ _) dX7_part_54 (fun H locs hM => ?_)
              refine lv_aload_n F.1.1 F.1.2.1 dX7_part_57 rfl (lv_at hl 0 rfl) ?_
              refine lv_dup F.1.1 F.1.2.1 dX7_part_58 rfl ?_
              refine tr_get F hd hM 11 (by decide) q1731 (congrArg (fun z => some (Value.int z)) ((va_up_ne _ _ (by decide)).trans hsp)) dX7_part_59 ?_
              refine lv_aload_n F.1.1 F.1.2.1 dX7_part_62 rfl (lv_at hl 0 rfl) ?_
              refine tr_get F hd hM 12 (by decide) q1732 (congrArg (fun z => some (Value.int z)) (va_up_self _ _ _)) dX7_part_63 ?_
              refine mr_ifeqN F (tgt := 73) dX7_part_66 (by decide) (by omega) (fun c66 => ?_) (fun c66 => ?_)
              · exact absurd c66 (by decide)
              · refine mr_iconst F 1 dX7_part_69 (by decide +kernel) ?_
                refine lv_goto (tgt := 74) F.1.1 F.1.2.1 dX7_part_70 (by decide) ?_
                refine mr_iaddN F dX7_part_74 ?_
                refine tr_put F hd hM 11 (by decide) q1731 rfl rfl rfl (tw_s11 _ _ _) dX7_part_75 (fun H locs hM => ?_)
                exact jn _ _ (by rw [hp]; exact hM) _ hl
            · refine lv_iload_n F.1.1 F.1.2.1 dX7_part_37 rfl (lv_at hl 1 rfl) ?_
              refine mr_bipush F 99 dX7_part_38 (by decide +kernel) ?_
              refine lv_icmp_eq (tgt := 49) F.1.1 F.1.2.1 dX7_part_40 (by decide) (fun c40 => ?_) (fun c40 => ?_)
              · have hp : tP1 L = true := by rw [c40]; decide
                refine mr_iconst F 1 dX7_part_49 (by decide +kernel) ?_
                refine lv_goto (tgt := 54) F.1.1 F.1.2.1 dX7_part_50 (by decide) ?_
                refine tr_put F hd hM 12 (by decide) q1732 rfl (by first | rfl | exact nZ_bI _) (by first | rfl | exact fZ_bI _) (tw_s12 _ _ _) dX7_part_54 (fun H locs hM => ?_)
                refine lv_aload_n F.1.1 F.1.2.1 dX7_part_57 rfl (lv_at hl 0 rfl) ?_
                refine lv_dup F.1.1 F.1.2.1 dX7_part_58 rfl ?_
                refine tr_get F hd hM 11 (by decide) q1731 (congrArg (fun z => some (Value.int z)) ((va_up_ne _ _ (by decide)).trans hsp)) dX7_part_59 ?_
                refine lv_aload_n F.1.1 F.1.2.1 dX7_part_62 rfl (lv_at hl 0 rfl) ?_
                refine tr_get F hd hM 12 (by decide) q1732 (congrArg (fun z => some (Value.int z)) (va_up_self _ _ _)) dX7_part_63 ?_
                refine mr_ifeqN F (tgt := 73) dX7_part_66 (by decide) (by omega) (fun c66 => ?_) (fun c66 => ?_)
                · exact absurd c66 (by decide)
                · refine mr_iconst F 1 dX7_part_69 (by decide +kernel) ?_
                  refine lv_goto (tgt := 74) F.1.1 F.1.2.1 dX7_part_70 (by decide) ?_
                  refine mr_iaddN F dX7_part_74 ?_
                  refine tr_put F hd hM 11 (by decide) q1731 rfl rfl rfl (tw_s11 _ _ _) dX7_part_75 (fun H locs hM => ?_)
                  exact jn _ _ (by rw [hp]; exact hM) _ hl
              · refine lv_iload_n F.1.1 F.1.2.1 dX7_part_43 rfl (lv_at hl 1 rfl) ?_
                refine mr_bipush F 102 dX7_part_44 (by decide +kernel) ?_
                refine lv_icmp_ne (tgt := 53) F.1.1 F.1.2.1 dX7_part_46 (by decide) (fun c46 => ?_) (fun c46 => ?_)
                · have hp : tP1 L = false := by unfold tP1; exact decide_eq_false (by rintro (q | q | q | q | q | q | q | q) <;> first | exact c4 q | exact c10 q | exact c16 q | exact c22 q | exact c28 q | exact c34 q | exact c40 q | exact c46 q)
                  refine mr_iconst F 0 dX7_part_53 (by decide +kernel) ?_
                  refine tr_put F hd hM 12 (by decide) q1732 rfl (by first | rfl | exact nZ_bI _) (by first | rfl | exact fZ_bI _) (tw_s12 _ _ _) dX7_part_54 (fun H locs hM => ?_)
                  refine lv_aload_n F.1.1 F.1.2.1 dX7_part_57 rfl (lv_at hl 0 rfl) ?_
                  refine lv_dup F.1.1 F.1.2.1 dX7_part_58 rfl ?_
                  refine tr_get F hd hM 11 (by decide) q1731 (congrArg (fun z => some (Value.int z)) ((va_up_ne _ _ (by decide)).trans hsp)) dX7_part_59 ?_
                  refine lv_aload_n F.1.1 F.1.2.1 dX7_part_62 rfl (lv_at hl 0 rfl) ?_
                  refine tr_get F hd hM 12 (by decide) q1732 (congrArg (fun z => some (Value.int z)) (va_up_self _ _ _)) dX7_part_63 ?_
                  refine mr_ifeqN F (tgt := 73) dX7_part_66 (by decide) (by omega) (fun c66 => ?_) (fun c66 => ?_)
                  · refine mr_iconst F 0 dX7_part_73 (by decide +kernel) ?_
                    refine mr_iaddN F dX7_part_74 ?_
                    refine tr_put F hd hM 11 (by decide) q1731 rfl rfl rfl (tw_s11 _ _ _) dX7_part_75 (fun H locs hM => ?_)
                    exact jn _ _ (by rw [hp]; exact hM) _ hl
                  · exact absurd rfl c66
                · have hp : tP1 L = true := by rw [c46]; decide
                  refine mr_iconst F 1 dX7_part_49 (by decide +kernel) ?_
                  refine lv_goto (tgt := 54) F.1.1 F.1.2.1 dX7_part_50 (by decide) ?_
                  refine tr_put F hd hM 12 (by decide) q1732 rfl (by first | rfl | exact nZ_bI _) (by first | rfl | exact fZ_bI _) (tw_s12 _ _ _) dX7_part_54 (fun H locs hM => ?_)
                  refine lv_aload_n F.1.1 F.1.2.1 dX7_part_57 rfl (lv_at hl 0 rfl) ?_
                  refine lv_dup F.1.1 F.1.2.1 dX7_part_58 rfl ?_
                  refine tr_get F hd hM 11 (by decide) q1731 (congrArg (fun z => some (Value.int z)) ((va_up_ne _ _ (by decide)).trans hsp)) dX7_part_59 ?_
                  refine lv_aload_n F.1.1 F.1.2.1 dX7_part_62 rfl (lv_at hl 0 rfl) ?_
                  refine tr_get F hd hM 12 (by decide) q1732 (congrArg (fun z => some (Value.int z)) (va_up_self _ _ _)) dX7_part_63 ?_
                  refine mr_ifeqN F (tgt := 73) dX7_part_66 (by decide) (by omega) (fun c66 => ?_) (fun c66 => ?_)
                  · exact absurd c66 (by decide)
                  · refine mr_iconst F 1 dX7_part_69 (by decide +kernel) ?_
                    refine lv_goto (tgt := 74) F.1.1 F.1.2.1 dX7_part_70 (by decide) ?_
                    refine mr_iaddN F dX7_part_74 ?_
                    refine tr_put F hd hM 11 (by decide) q1731 rfl rfl rfl (tw_s11 _ _ _) dX7_part_75 (fun H locs hM => ?_)
                    exact jn _ _ (by rw [hp]; exact hM) _ hl
