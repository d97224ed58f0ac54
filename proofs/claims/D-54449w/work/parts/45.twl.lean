/-! THE REFERENCE: an order carried out, a whole text -/
set_option maxHeartbeats 4000000 in
theorem ct_does (l : Launch) {G : mG} {ad : Nat → Nat} {g r : Nat → Int32} {f : Nat → UInt32} {h : tH} {b : Nat → Int32} {M0 : mM} {L x z u : Int32} (hd : tAd ad) (hI : mInv r f) (hL : g 13 = L) (hx : g 14 = x) (hz : g 15 = z) (hu : g 16 = u) (hwl : tWl L x z) : mMet l yX7_does (ws_ yX7_does cX7_does 2 (some .boolean)) (mRm 6 0 0) [.ref (ad 0)] G (pPre (tM G ad g r f h b M0)) (pPost (tM G ad g (tDo r f L x z u).2.1 (tDo r f L x z u).2.2 h b M0) (some (.int (wI (tDo r f L x z u).1)))) := by
  refine mMet.of (by decide +kernel) (Nat.le_of_ble_eq_true rfl) fun p e s m args below meth c A Q M hM0 F hnm hQ hM ls hl => ?_
  have hM0 : M = tM G ad g r f h b M0 := hM0
  subst hM0
  have hl : lv_has ls 2 [(0, .ref (ad 0))] := hl
  obtain ⟨np, hnp, hnp6, hpk, hun⟩ := hI.1
  have enp : nD (r 89) = np := by rw [hnp]; exact nD_nI (by omega)
  refine mr_iconst F 0 dX7_does_0 (by decide +kernel) ?_
  refine lv_istore_n (lv' := [(1, _), (0, _)]) F.1.1 F.1.2.1 dX7_does_1 rfl hl (by decide) rfl (fun ls hl => ?_)
  rcases hwl with rfl | rfl | rfl | rfl | rfl | ⟨rfl, hz1⟩ | rfl | ⟨rfl, hfm⟩
  · refine lv_aload_n F.1.1 F.1.2.1 dX7_does_2 rfl (lv_at hl 1 rfl) ?_
    refine tr_get F hd hM 13 (by decide) q1733 (congrArg (fun z => some (Value.int z)) hL) dX7_does_3 ?_
    refine lv_tableIn (off := 98) (tgt := 104) F.1.1 F.1.2.1 dX7_does_6 (by decide) (by decide) rfl (by decide) ?_
    refine lv_aload_n F.1.1 F.1.2.1 dX7_does_104 rfl (lv_at hl 1 rfl) ?_
    refine lv_aload_n F.1.1 F.1.2.1 dX7_does_105 rfl (lv_at hl 1 rfl) ?_
    refine tr_get F hd hM 14 (by decide) q1734 (congrArg (fun z => some (Value.int z)) hx) dX7_does_106 ?_
    refine lv_aload_n F.1.1 F.1.2.1 dX7_does_109 rfl (lv_at hl 1 rfl) ?_
    refine tr_get F hd hM 15 (by decide) q1735 (congrArg (fun z => some (Value.int z)) hz) dX7_does_110 ?_
    refine mc_Va (As := [_, _]) F hM (ct_mountRefusal l hd (by assumption) (by omega)) (cwV 2 F.1.2.2.2.2 (lw_V q1828 q1830 qs39 q88 q1831) rfl rfl rfl (by decide +kernel) (mRm_ok (by decide) (by decide))) (tM_0 hd) rfl rfl rfl rfl hl.1 rfl (Nat.le_of_ble_eq_true rfl) dX7_does_113 ⟨Nat.le_of_ble_eq_true rfl, Nat.le_of_ble_eq_true rfl⟩ (fun H locs hM => ?_)
    have hkb : kMount r x z < 2 ^ 31 := Nat.lt_of_le_of_lt (cd2_le _ _) (by decide)
    refine mr_ifleN F (tgt := 121) dX7_does_116 (by decide) (by omega) (fun c116 => ?_) (fun c116 => ?_)
    · have hE := tDo_m1 (f := f) (u := u) c116
      obtain ⟨⟨⟨d, hd4, rfl⟩, -⟩, -⟩ := cd2_z c116
      have ed := nD_nI (show d < 2 ^ 31 by omega)
      simp only [ed] at hE
      refine lv_aload_n F.1.1 F.1.2.1 dX7_does_121 rfl (lv_at hl 1 rfl) ?_
      refine tr_get F hd hM 0 (by decide) q1720 rfl dX7_does_122 ?_
      refine mr_bipush F 60 dX7_does_125 (by decide +kernel) ?_
      refine lv_aload_n F.1.1 F.1.2.1 dX7_does_127 rfl (lv_at hl 1 rfl) ?_
      refine tr_get F hd hM 14 (by decide) q1734 (congrArg (fun z => some (Value.int z)) hx) dX7_does_128 ?_
      refine mr_iaddN F dX7_does_131 ?_
      refine lv_aload_n F.1.1 F.1.2.1 dX7_does_132 rfl (lv_at hl 1 rfl) ?_
      refine tr_get F hd hM 15 (by decide) q1735 (congrArg (fun z => some (Value.int z)) hz) dX7_does_133 ?_
      refine tr_st1 F hd hM (by omega) dX7_does_136 (fun H locs hM => ?_)
      refine mr_iconst F 1 dX7_does_137 (by decide +kernel) ?_
      exact mr_zret F hQ (by first | rfl | exact nZ_bI _) hM (by rw [hE]; exact ⟨rfl, rfl⟩) (Nat.le_of_ble_eq_true rfl) (Nat.le_of_ble_eq_true rfl) dX7_does_138
    · have hE := tDo_m0 (f := f) (u := u) c116
      refine mr_iconst F 0 dX7_does_119 (by decide +kernel) ?_
      exact mr_zret F hQ (by first | rfl | exact nZ_bI _) hM (by rw [hE]; exact ⟨rfl, rfl⟩) (Nat.le_of_ble_eq_true rfl) (Nat.le_of_ble_eq_true rfl) dX7_does_120
  · refine lv_aload_n F.1.1 F.1.2.1 dX7_does_2 rfl (lv_at hl 1 rfl) ?_
    refine tr_get F hd hM 13 (by decide) q1733 (congrArg (fun z => some (Value.int z)) hL) dX7_does_3 ?_
    refine lv_tableIn (off := 133) (tgt := 139) F.1.1 F.1.2.1 dX7_does_6 (by decide) (by decide) rfl (by decide) ?_
    refine lv_aload_n F.1.1 F.1.2.1 dX7_does_139 rfl (lv_at hl 1 rfl) ?_
    refine lv_aload_n F.1.1 F.1.2.1 dX7_does_140 rfl (lv_at hl 1 rfl) ?_
    refine tr_get F hd hM 14 (by decide) q1734 (congrArg (fun z => some (Value.int z)) hx) dX7_does_141 ?_
    refine mc_Va (As := [_]) F hM (ct_packRefusal l hd ) (cwV 1 F.1.2.2.2.2 (lw_V q1848 q1850 qs43 q88 q1851) rfl rfl rfl (by decide +kernel) (mRm_ok (by decide) (by decide))) (tM_0 hd) rfl rfl rfl rfl hl.1 rfl (Nat.le_of_ble_eq_true rfl) dX7_does_144 ⟨Nat.le_of_ble_eq_true rfl, Nat.le_of_ble_eq_true rfl⟩ (fun H locs hM => ?_)
    have hkb : kPack r x < 2 ^ 31 := Nat.lt_of_le_of_lt (cd2_le _ _) (by decide)
    refine mr_ifleN F (tgt := 152) dX7_does_147 (by decide) (by omega) (fun c147 => ?_) (fun c147 => ?_)
    · have hE := tDo_u1 (f := f) (z := z) (u := u) c147
      obtain ⟨⟨d, hd4, rfl⟩, -⟩ := cd2_z c147
      have ed := nD_nI (show d < 2 ^ 31 by omega)
      simp only [ed] at hE
      refine lv_aload_n F.1.1 F.1.2.1 dX7_does_152 rfl (lv_at hl 1 rfl) ?_
      refine lv_aload_n F.1.1 F.1.2.1 dX7_does_153 rfl (lv_at hl 1 rfl) ?_
      refine tr_get F hd hM 14 (by decide) q1734 (congrArg (fun z => some (Value.int z)) hx) dX7_does_154 ?_
      refine mc_Va (As := [_]) F hM (ct_unmounts l hd (by omega)) (cwV 1 F.1.2.2.2.2 (lw_V q1852 q1854 qs44 q88 q1855) rfl rfl rfl (by decide +kernel) (mRm_ok (by decide) (by decide))) (tM_0 hd) rfl rfl rfl rfl hl.1 rfl (Nat.le_of_ble_eq_true rfl) dX7_does_157 ⟨Nat.le_of_ble_eq_true rfl, Nat.le_of_ble_eq_true rfl⟩ (fun H locs hM => ?_)
      refine lv_istore_n (lv' := [(1, _), (0, _)]) F.1.1 F.1.2.1 dX7_does_160 rfl hl (by decide) rfl (fun ls hl => ?_)
      refine mr_iconst F 1 dX7_does_161 (by decide +kernel) ?_
      exact mr_zret F hQ (by first | rfl | exact nZ_bI _) hM (by rw [hE]; exact ⟨rfl, rfl⟩) (Nat.le_of_ble_eq_true rfl) (Nat.le_of_ble_eq_true rfl) dX7_does_162
    · have hE := tDo_u0 (f := f) (z := z) (u := u) c147
      refine mr_iconst F 0 dX7_does_150 (by decide +kernel) ?_
      exact mr_zret F hQ (by first | rfl | exact nZ_bI _) hM (by rw [hE]; exact ⟨rfl, rfl⟩) (Nat.le_of_ble_eq_true rfl) (Nat.le_of_ble_eq_true rfl) dX7_does_151
  · refine lv_aload_n F.1.1 F.1.2.1 dX7_does_2 rfl (lv_at hl 1 rfl) ?_
    refine tr_get F hd hM 13 (by decide) q1733 (congrArg (fun z => some (Value.int z)) hL) dX7_does_3 ?_
    refine lv_tableIn (off := 157) (tgt := 163) F.1.1 F.1.2.1 dX7_does_6 (by decide) (by decide) rfl (by decide) ?_
    refine lv_aload_n F.1.1 F.1.2.1 dX7_does_163 rfl (lv_at hl 1 rfl) ?_
    refine lv_aload_n F.1.1 F.1.2.1 dX7_does_164 rfl (lv_at hl 1 rfl) ?_
    refine tr_get F hd hM 14 (by decide) q1734 (congrArg (fun z => some (Value.int z)) hx) dX7_does_165 ?_
    refine lv_aload_n F.1.1 F.1.2.1 dX7_does_168 rfl (lv_at hl 1 rfl) ?_
    refine tr_get F hd hM 15 (by decide) q1735 (congrArg (fun z => some (Value.int z)) hz) dX7_does_169 ?_
    refine mc_Va (As := [_, _]) F hM (ct_seekRefusal l hd ) (cwV 2 F.1.2.2.2.2 (lw_V q1860 q1862 qs45 q88 q1863) rfl rfl rfl (by decide +kernel) (mRm_ok (by decide) (by decide))) (tM_0 hd) rfl rfl rfl rfl hl.1 rfl (Nat.le_of_ble_eq_true rfl) dX7_does_172 ⟨Nat.le_of_ble_eq_true rfl, Nat.le_of_ble_eq_true rfl⟩ (fun H locs hM => ?_)
    have hkb : kSeek r x z < 2 ^ 31 := Nat.lt_of_le_of_lt (cd2_le _ _) (by decide)
    refine mr_ifleN F (tgt := 180) dX7_does_175 (by decide) (by omega) (fun c175 => ?_) (fun c175 => ?_)
    · have hE := tDo_s1 (f := f) (u := u) c175
      obtain ⟨⟨⟨d, hd4, rfl⟩, -⟩, -⟩ := cd2_z c175
      have ed := nD_nI (show d < 2 ^ 31 by omega)
      simp only [ed] at hE
      refine lv_aload_n F.1.1 F.1.2.1 dX7_does_180 rfl (lv_at hl 1 rfl) ?_
      refine lv_aload_n F.1.1 F.1.2.1 dX7_does_181 rfl (lv_at hl 1 rfl) ?_
      refine tr_get F hd hM 14 (by decide) q1734 (congrArg (fun z => some (Value.int z)) hx) dX7_does_182 ?_
      refine lv_aload_n F.1.1 F.1.2.1 dX7_does_185 rfl (lv_at hl 1 rfl) ?_
      refine tr_get F hd hM 15 (by decide) q1735 (congrArg (fun z => some (Value.int z)) hz) dX7_does_186 ?_
      refine mc_Va (As := [_, _]) F hM (ct_seeks l hd (by omega)) (cwV 2 F.1.2.2.2.2 (lw_V q1867 q1869 qs46 q88 q1870) rfl rfl rfl (by decide +kernel) (mRm_ok (by decide) (by decide))) (tM_0 hd) rfl rfl rfl rfl hl.1 rfl (Nat.le_of_ble_eq_true rfl) dX7_does_189 ⟨Nat.le_of_ble_eq_true rfl, Nat.le_of_ble_eq_true rfl⟩ (fun H locs hM => ?_)
      refine lv_istore_n (lv' := [(1, _), (0, _)]) F.1.1 F.1.2.1 dX7_does_192 rfl hl (by decide) rfl (fun ls hl => ?_)
      refine mr_iconst F 1 dX7_does_193 (by decide +kernel) ?_
      exact mr_zret F hQ (by first | rfl | exact nZ_bI _) hM (by rw [hE]; exact ⟨rfl, rfl⟩) (Nat.le_of_ble_eq_true rfl) (Nat.le_of_ble_eq_true rfl) dX7_does_194
    · have hE := tDo_s0 (f := f) (u := u) c175
      refine mr_iconst F 0 dX7_does_178 (by decide +kernel) ?_
      exact mr_zret F hQ (by first | rfl | exact nZ_bI _) hM (by rw [hE]; exact ⟨rfl, rfl⟩) (Nat.le_of_ble_eq_true rfl) (Nat.le_of_ble_eq_true rfl) dX7_does_179
  · refine lv_aload_n F.1.1 F.1.2.1 dX7_does_2 rfl (lv_at hl 1 rfl) ?_
    refine tr_get F hd hM 13 (by decide) q1733 (congrArg (fun z => some (Value.int z)) hL) dX7_does_3 ?_
    refine lv_tableIn (off := 189) (tgt := 195) F.1.1 F.1.2.1 dX7_does_6 (by decide) (by decide) rfl (by decide) ?_
    refine lv_aload_n F.1.1 F.1.2.1 dX7_does_195 rfl (lv_at hl 1 rfl) ?_
    refine lv_aload_n F.1.1 F.1.2.1 dX7_does_196 rfl (lv_at hl 1 rfl) ?_
    refine tr_get F hd hM 14 (by decide) q1734 (congrArg (fun z => some (Value.int z)) hx) dX7_does_197 ?_
    refine lv_aload_n F.1.1 F.1.2.1 dX7_does_200 rfl (lv_at hl 1 rfl) ?_
    refine tr_get F hd hM 15 (by decide) q1735 (congrArg (fun z => some (Value.int z)) hz) dX7_does_201 ?_
    refine lv_aload_n F.1.1 F.1.2.1 dX7_does_204 rfl (lv_at hl 1 rfl) ?_
    refine tr_get F hd hM 16 (by decide) q1736 (congrArg (fun z => some (Value.int z)) hu) dX7_does_205 ?_
    refine mc_Va (As := [_, _, _]) F hM (ct_writeRefusal l hd ) (cwV 3 F.1.2.2.2.2 (lw_V q1883 q1885 qs47 q88 q1886) rfl rfl rfl (by decide +kernel) (mRm_ok (by decide) (by decide))) (tM_0 hd) rfl rfl rfl rfl hl.1 rfl (Nat.le_of_ble_eq_true rfl) dX7_does_208 ⟨Nat.le_of_ble_eq_true rfl, Nat.le_of_ble_eq_true rfl⟩ (fun H locs hM => ?_)
    have hkb : kWrite r x z u < 2 ^ 31 := Nat.lt_of_le_of_lt (cd3_le _ _ _) (by decide)
    refine mr_ifleN F (tgt := 216) dX7_does_211 (by decide) (by omega) (fun c211 => ?_) (fun c211 => ?_)
    · have hE := tDo_w1 (f := f) c211
      obtain ⟨⟨⟨d, hd4, rfl⟩, ⟨n, hn4, rfl⟩⟩, hval, hpn⟩ := cd3_z c211
      have ed := nD_nI (show d < 2 ^ 31 by omega)
      have en := nD_nI (show n < 2 ^ 31 by omega)
      rw [ed] at hpn
      obtain ⟨p0, hp0, hp⟩ := (hpk d hd4).resolve_left hpn
      have ep : nD (r (60 + d)) = p0 := by rw [hp]; exact nD_nI (by omega)
      obtain ⟨c0, hc4, hc⟩ := hI.2.2.2.2.2.1 d hd4
      have ec : nD (r (52 + d)) = c0 := by rw [hc]; exact nD_nI (by omega)
      simp only [ed, en, ep, ec] at hE
      refine lv_aload_n F.1.1 F.1.2.1 dX7_does_216 rfl (lv_at hl 1 rfl) ?_
      refine lv_aload_n F.1.1 F.1.2.1 dX7_does_217 rfl (lv_at hl 1 rfl) ?_
      refine tr_get F hd hM 14 (by decide) q1734 (congrArg (fun z => some (Value.int z)) hx) dX7_does_218 ?_
      refine lv_aload_n F.1.1 F.1.2.1 dX7_does_221 rfl (lv_at hl 1 rfl) ?_
      refine tr_get F hd hM 15 (by decide) q1735 (congrArg (fun z => some (Value.int z)) hz) dX7_does_222 ?_
      refine lv_aload_n F.1.1 F.1.2.1 dX7_does_225 rfl (lv_at hl 1 rfl) ?_
      refine tr_get F hd hM 16 (by decide) q1736 (congrArg (fun z => some (Value.int z)) hu) dX7_does_226 ?_
      refine mc_Va (As := [_, _, _]) F hM (ct_writes l hd (by assumption) (by assumption) (by omega) (by omega) (by omega) (by omega)) (cwV 3 F.1.2.2.2.2 (lw_V q1890 q1892 qs48 q88 q1893) rfl rfl rfl (by decide +kernel) (mRm_ok (by decide) (by decide))) (tM_0 hd) rfl rfl rfl rfl hl.1 rfl (Nat.le_of_ble_eq_true rfl) dX7_does_229 ⟨Nat.le_of_ble_eq_true rfl, Nat.le_of_ble_eq_true rfl⟩ (fun H locs hM => ?_)
      refine lv_istore_n (lv' := [(1, _), (0, _)]) F.1.1 F.1.2.1 dX7_does_232 rfl hl (by decide) rfl (fun ls hl => ?_)
      refine mr_iconst F 1 dX7_does_233 (by decide +kernel) ?_
      exact mr_zret F hQ (by first | rfl | exact nZ_bI _) hM (by rw [hE]; exact ⟨rfl, rfl⟩) (Nat.le_of_ble_eq_true rfl) (Nat.le_of_ble_eq_true rfl) dX7_does_234
    · have hE := tDo_w0 (f := f) c211
      refine mr_iconst F 0 dX7_does_214 (by decide +kernel) ?_
      exact mr_zret F hQ (by first | rfl | exact nZ_bI _) hM (by rw [hE]; exact ⟨rfl, rfl⟩) (Nat.le_of_ble_eq_true rfl) (Nat.le_of_ble_eq_true rfl) dX7_does_215
  · refine lv_aload_n F.1.1 F.1.2.1 dX7_does_2 rfl (lv_at hl 1 rfl) ?_
    refine tr_get F hd hM 13 (by decide) q1733 (congrArg (fun z => some (Value.int z)) hL) dX7_does_3 ?_
    refine lv_tableIn (off := 229) (tgt := 235) F.1.1 F.1.2.1 dX7_does_6 (by decide) (by decide) rfl (by decide) ?_
    refine lv_aload_n F.1.1 F.1.2.1 dX7_does_235 rfl (lv_at hl 1 rfl) ?_
    refine lv_aload_n F.1.1 F.1.2.1 dX7_does_236 rfl (lv_at hl 1 rfl) ?_
    refine tr_get F hd hM 14 (by decide) q1734 (congrArg (fun z => some (Value.int z)) hx) dX7_does_237 ?_
    refine lv_aload_n F.1.1 F.1.2.1 dX7_does_240 rfl (lv_at hl 1 rfl) ?_
    refine tr_get F hd hM 15 (by decide) q1735 (congrArg (fun z => some (Value.int z)) hz) dX7_does_241 ?_
    refine mc_Va (As := [_, _]) F hM (ct_readRefusal l hd ) (cwV 2 F.1.2.2.2.2 (lw_V q1911 q1913 qs51 q88 q1914) rfl rfl rfl (by decide +kernel) (mRm_ok (by decide) (by decide))) (tM_0 hd) rfl rfl rfl rfl hl.1 rfl (Nat.le_of_ble_eq_true rfl) dX7_does_244 ⟨Nat.le_of_ble_eq_true rfl, Nat.le_of_ble_eq_true rfl⟩ (fun H locs hM => ?_)
    have hkb : kRead r x z < 2 ^ 31 := Nat.lt_of_le_of_lt (cd2_le _ _) (by decide)
    refine mr_ifleN F (tgt := 252) dX7_does_247 (by decide) (by omega) (fun c247 => ?_) (fun c247 => ?_)
    · have hE := tDo_r1 (f := f) (u := u) c247
      obtain ⟨⟨⟨d, hd4, rfl⟩, ⟨n, hn4, rfl⟩⟩, hpn⟩ := cd2_z c247
      have ed := nD_nI (show d < 2 ^ 31 by omega)
      have en := nD_nI (show n < 2 ^ 31 by omega)
      rw [ed] at hpn
      obtain ⟨p0, hp0, hp⟩ := (hpk d hd4).resolve_left hpn
      have ep : nD (r (60 + d)) = p0 := by rw [hp]; exact nD_nI (by omega)
      obtain ⟨c0, hc4, hc⟩ := hI.2.2.2.2.2.1 d hd4
      have ec : nD (r (52 + d)) = c0 := by rw [hc]; exact nD_nI (by omega)
      obtain ⟨t, ht, ht8⟩ := hI.2.1
      have et : nD (r 88) = t := by rw [ht]; exact nD_nI (by omega)
      simp only [ed, en, ep, ec, et] at hE
      refine lv_aload_n F.1.1 F.1.2.1 dX7_does_252 rfl (lv_at hl 1 rfl) ?_
      refine lv_aload_n F.1.1 F.1.2.1 dX7_does_253 rfl (lv_at hl 1 rfl) ?_
      refine tr_get F hd hM 14 (by decide) q1734 (congrArg (fun z => some (Value.int z)) hx) dX7_does_254 ?_
      refine lv_aload_n F.1.1 F.1.2.1 dX7_does_257 rfl (lv_at hl 1 rfl) ?_
      refine tr_get F hd hM 15 (by decide) q1735 (congrArg (fun z => some (Value.int z)) hz) dX7_does_258 ?_
      refine mc_Va (As := [_, _]) F hM (ct_readsNow l hd (by assumption) (by assumption) (by assumption) (by assumption) (by omega) (by omega) (by omega) (by omega) (by omega)) (cwV 2 F.1.2.2.2.2 (lw_V q1915 q1917 qs52 q88 q1918) rfl rfl rfl (by decide +kernel) (mRm_ok (by decide) (by decide))) (tM_0 hd) rfl rfl rfl rfl hl.1 rfl (Nat.le_of_ble_eq_true rfl) dX7_does_261 ⟨Nat.le_of_ble_eq_true rfl, Nat.le_of_ble_eq_true rfl⟩ (fun H locs hM => ?_)
      refine lv_istore_n (lv' := [(1, _), (0, _)]) F.1.1 F.1.2.1 dX7_does_264 rfl hl (by decide) rfl (fun ls hl => ?_)
      refine mr_iconst F 1 dX7_does_265 (by decide +kernel) ?_
      exact mr_zret F hQ (by first | rfl | exact nZ_bI _) hM (by rw [hE]; exact ⟨rfl, rfl⟩) (Nat.le_of_ble_eq_true rfl) (Nat.le_of_ble_eq_true rfl) dX7_does_266
    · have hE := tDo_r0 (f := f) (u := u) c247
      refine mr_iconst F 0 dX7_does_250 (by decide +kernel) ?_
      exact mr_zret F hQ (by first | rfl | exact nZ_bI _) hM (by rw [hE]; exact ⟨rfl, rfl⟩) (Nat.le_of_ble_eq_true rfl) (Nat.le_of_ble_eq_true rfl) dX7_does_251
  · refine lv_aload_n F.1.1 F.1.2.1 dX7_does_2 rfl (lv_at hl 1 rfl) ?_
    refine tr_get F hd hM 13 (by decide) q1733 (congrArg (fun z => some (Value.int z)) hL) dX7_does_3 ?_
    refine lv_tableIn (off := 261) (tgt := 267) F.1.1 F.1.2.1 dX7_does_6 (by decide) (by decide) rfl (by decide) ?_
    refine lv_aload_n F.1.1 F.1.2.1 dX7_does_267 rfl (lv_at hl 1 rfl) ?_
    refine lv_aload_n F.1.1 F.1.2.1 dX7_does_268 rfl (lv_at hl 1 rfl) ?_
    refine tr_get F hd hM 14 (by decide) q1734 (congrArg (fun z => some (Value.int z)) hx) dX7_does_269 ?_
    refine lv_aload_n F.1.1 F.1.2.1 dX7_does_272 rfl (lv_at hl 1 rfl) ?_
    refine tr_get F hd hM 15 (by decide) q1735 (congrArg (fun z => some (Value.int z)) hz) dX7_does_273 ?_
    refine mr_iconst F 1 dX7_does_276 (by decide +kernel) ?_
    refine lv_icmp_ne (tgt := 284) F.1.1 F.1.2.1 dX7_does_277 (by decide) (fun c277 => ?_) (fun c277 => ?_)
    · have ho : bI (z = nI 1) = nI 0 := bI_f c277
      refine mr_iconst F 0 dX7_does_284 (by decide +kernel) ?_
      refine mc_Va (As := [_, _]) F hM (ct_servoRefusal l hd ) (cwV 2 F.1.2.2.2.2 (lw_V q1812 q1814 qs37 q88 q1815) rfl rfl rfl (by decide +kernel) (mRm_ok (by decide) (by decide))) (tM_0 hd) rfl rfl rfl rfl hl.1 rfl (Nat.le_of_ble_eq_true rfl) dX7_does_285 ⟨Nat.le_of_ble_eq_true rfl, Nat.le_of_ble_eq_true rfl⟩ (fun H locs hM => ?_)
      have hkb : kServo r x (nI 0) < 2 ^ 31 := Nat.lt_of_le_of_lt (cd2_le _ _) (by decide)
      refine mr_ifleN F (tgt := 293) dX7_does_288 (by decide) (by omega) (fun c288 => ?_) (fun c288 => ?_)
      · have hE := tDo_v1 (f := f) (z := z) (u := u) (by rw [ho]; exact c288)
        obtain ⟨⟨d, hd4, rfl⟩, -⟩ := cd2_z c288
        have ed := nD_nI (show d < 2 ^ 31 by omega)
        simp only [ed] at hE
        refine lv_aload_n F.1.1 F.1.2.1 dX7_does_293 rfl (lv_at hl 1 rfl) ?_
        refine tr_get F hd hM 0 (by decide) q1720 rfl dX7_does_294 ?_
        refine mr_bipush F 56 dX7_does_297 (by decide +kernel) ?_
        refine lv_aload_n F.1.1 F.1.2.1 dX7_does_299 rfl (lv_at hl 1 rfl) ?_
        refine tr_get F hd hM 14 (by decide) q1734 (congrArg (fun z => some (Value.int z)) hx) dX7_does_300 ?_
        refine mr_iaddN F dX7_does_303 ?_
        refine lv_aload_n F.1.1 F.1.2.1 dX7_does_304 rfl (lv_at hl 1 rfl) ?_
        refine tr_get F hd hM 15 (by decide) q1735 (congrArg (fun z => some (Value.int z)) hz) dX7_does_305 ?_
        refine tr_st1 F hd hM (by omega) dX7_does_308 (fun H locs hM => ?_)
        refine mr_iconst F 1 dX7_does_309 (by decide +kernel) ?_
        exact mr_zret F hQ (by first | rfl | exact nZ_bI _) hM (by rw [hE]; exact ⟨rfl, rfl⟩) (Nat.le_of_ble_eq_true rfl) (Nat.le_of_ble_eq_true rfl) dX7_does_310
      · have hE := tDo_v0 (f := f) (z := z) (u := u) (by rw [ho]; exact c288)
        refine mr_iconst F 0 dX7_does_291 (by decide +kernel) ?_
        exact mr_zret F hQ (by first | rfl | exact nZ_bI _) hM (by rw [hE]; exact ⟨rfl, rfl⟩) (Nat.le_of_ble_eq_true rfl) (Nat.le_of_ble_eq_true rfl) dX7_does_292
    · have ho : bI (z = nI 1) = nI 1 := bI_t c277
      refine mr_iconst F 1 dX7_does_280 (by decide +kernel) ?_
      refine lv_goto (tgt := 285) F.1.1 F.1.2.1 dX7_does_281 (by decide) ?_
      refine mc_Va (As := [_, _]) F hM (ct_servoRefusal l hd ) (cwV 2 F.1.2.2.2.2 (lw_V q1812 q1814 qs37 q88 q1815) rfl rfl rfl (by decide +kernel) (mRm_ok (by decide) (by decide))) (tM_0 hd) rfl rfl rfl rfl hl.1 rfl (Nat.le_of_ble_eq_true rfl) dX7_does_285 ⟨Nat.le_of_ble_eq_true rfl, Nat.le_of_ble_eq_true rfl⟩ (fun H locs hM => ?_)
      have hkb : kServo r x (nI 1) < 2 ^ 31 := Nat.lt_of_le_of_lt (cd2_le _ _) (by decide)
      refine mr_ifleN F (tgt := 293) dX7_does_288 (by decide) (by omega) (fun c288 => ?_) (fun c288 => ?_)
      · have hE := tDo_v1 (f := f) (z := z) (u := u) (by rw [ho]; exact c288)
        obtain ⟨⟨d, hd4, rfl⟩, -⟩ := cd2_z c288
        have ed := nD_nI (show d < 2 ^ 31 by omega)
        simp only [ed] at hE
        refine lv_aload_n F.1.1 F.1.2.1 dX7_does_293 rfl (lv_at hl 1 rfl) ?_
        refine tr_get F hd hM 0 (by decide) q1720 rfl dX7_does_294 ?_
        refine mr_bipush F 56 dX7_does_297 (by decide +kernel) ?_
        refine lv_aload_n F.1.1 F.1.2.1 dX7_does_299 rfl (lv_at hl 1 rfl) ?_
        refine tr_get F hd hM 14 (by decide) q1734 (congrArg (fun z => some (Value.int z)) hx) dX7_does_300 ?_
        refine mr_iaddN F dX7_does_303 ?_
        refine lv_aload_n F.1.1 F.1.2.1 dX7_does_304 rfl (lv_at hl 1 rfl) ?_
        refine tr_get F hd hM 15 (by decide) q1735 (congrArg (fun z => some (Value.int z)) hz) dX7_does_305 ?_
        refine tr_st1 F hd hM (by omega) dX7_does_308 (fun H locs hM => ?_)
        refine mr_iconst F 1 dX7_does_309 (by decide +kernel) ?_
        exact mr_zret F hQ (by first | rfl | exact nZ_bI _) hM (by rw [hE]; exact ⟨rfl, rfl⟩) (Nat.le_of_ble_eq_true rfl) (Nat.le_of_ble_eq_true rfl) dX7_does_310
      · have hE := tDo_v0 (f := f) (z := z) (u := u) (by rw [ho]; exact c288)
        refine mr_iconst F 0 dX7_does_291 (by decide +kernel) ?_
        exact mr_zret F hQ (by first | rfl | exact nZ_bI _) hM (by rw [hE]; exact ⟨rfl, rfl⟩) (Nat.le_of_ble_eq_true rfl) (Nat.le_of_ble_eq_true rfl) dX7_does_292
  · refine lv_aload_n F.1.1 F.1.2.1 dX7_does_2 rfl (lv_at hl 1 rfl) ?_
    refine tr_get F hd hM 13 (by decide) q1733 (congrArg (fun z => some (Value.int z)) hL) dX7_does_3 ?_
    refine lv_tableIn (off := 305) (tgt := 311) F.1.1 F.1.2.1 dX7_does_6 (by decide) (by decide) rfl (by decide) ?_
    refine lv_aload_n F.1.1 F.1.2.1 dX7_does_311 rfl (lv_at hl 1 rfl) ?_
    refine lv_aload_n F.1.1 F.1.2.1 dX7_does_312 rfl (lv_at hl 1 rfl) ?_
    refine tr_get F hd hM 14 (by decide) q1734 (congrArg (fun z => some (Value.int z)) hx) dX7_does_313 ?_
    refine mc_Va (As := [_]) F hM (ct_polishRefusal l hd (by assumption) (by omega)) (cwV 1 F.1.2.2.2.2 (lw_V q1947 q1949 qs56 q88 q1950) rfl rfl rfl (by decide +kernel) (mRm_ok (by decide) (by decide))) (tM_0 hd) rfl rfl rfl rfl hl.1 rfl (Nat.le_of_ble_eq_true rfl) dX7_does_316 ⟨Nat.le_of_ble_eq_true rfl, Nat.le_of_ble_eq_true rfl⟩ (fun H locs hM => ?_)
    have hkb : kPolish r x < 2 ^ 31 := Nat.lt_of_le_of_lt (cd2_le _ _) (by decide)
    refine mr_ifleN F (tgt := 324) dX7_does_319 (by decide) (by omega) (fun c319 => ?_) (fun c319 => ?_)
    · have hE := tDo_c1 (f := f) (z := z) (u := u) c319
      obtain ⟨⟨d, hd4, rfl⟩, -⟩ := cd2_z c319
      rw [enp] at hd4
      have ed := nD_nI (show d < 2 ^ 31 by omega)
      have hfs := hI.2.2.2.2.2.2.2.2.2.2.2.1
      simp only [ed] at hE
      refine lv_aload_n F.1.1 F.1.2.1 dX7_does_324 rfl (lv_at hl 1 rfl) ?_
      refine lv_aload_n F.1.1 F.1.2.1 dX7_does_325 rfl (lv_at hl 1 rfl) ?_
      refine tr_get F hd hM 14 (by decide) q1734 (congrArg (fun z => some (Value.int z)) hx) dX7_does_326 ?_
      refine mc_Va (As := [_]) F hM (ct_polishes l hd (by assumption) (by omega)) (cwV 1 F.1.2.2.2.2 (lw_V q1951 q1953 qs57 q88 q1954) rfl rfl rfl (by decide +kernel) (mRm_ok (by decide) (by decide))) (tM_0 hd) rfl rfl rfl rfl hl.1 rfl (Nat.le_of_ble_eq_true rfl) dX7_does_329 ⟨Nat.le_of_ble_eq_true rfl, Nat.le_of_ble_eq_true rfl⟩ (fun H locs hM => ?_)
      refine lv_istore_n (lv' := [(1, _), (0, _)]) F.1.1 F.1.2.1 dX7_does_332 rfl hl (by decide) rfl (fun ls hl => ?_)
      refine mr_iconst F 1 dX7_does_333 (by decide +kernel) ?_
      exact mr_zret F hQ (by first | rfl | exact nZ_bI _) hM (by rw [hE]; exact ⟨rfl, rfl⟩) (Nat.le_of_ble_eq_true rfl) (Nat.le_of_ble_eq_true rfl) dX7_does_334
    · have hE := tDo_c0 (f := f) (z := z) (u := u) c319
      refine mr_iconst F 0 dX7_does_322 (by decide +kernel) ?_
      exact mr_zret F hQ (by first | rfl | exact nZ_bI _) hM (by rw [hE]; exact ⟨rfl, rfl⟩) (Nat.le_of_ble_eq_true rfl) (Nat.le_of_ble_eq_true rfl) dX7_does_323
  · obtain ⟨⟨d, hd4, rfl⟩, ⟨n, hn4, rfl⟩⟩ := hfm
    have ed := nD_nI (show d < 2 ^ 31 by omega)
    have en := nD_nI (show n < 2 ^ 31 by omega)
    have hE := tDo_f (r := r) (f := f) (x := nI d) (z := nI n) (u := u)
    simp only [ed, en] at hE
    refine lv_aload_n F.1.1 F.1.2.1 dX7_does_2 rfl (lv_at hl 1 rfl) ?_
    refine tr_get F hd hM 13 (by decide) q1733 (congrArg (fun z => some (Value.int z)) hL) dX7_does_3 ?_
    refine lv_tableIn (off := 329) (tgt := 335) F.1.1 F.1.2.1 dX7_does_6 (by decide) (by decide) rfl (by decide) ?_
    refine lv_aload_n F.1.1 F.1.2.1 dX7_does_335 rfl (lv_at hl 1 rfl) ?_
    refine lv_aload_n F.1.1 F.1.2.1 dX7_does_336 rfl (lv_at hl 1 rfl) ?_
    refine tr_get F hd hM 14 (by decide) q1734 (congrArg (fun z => some (Value.int z)) hx) dX7_does_337 ?_
    refine lv_aload_n F.1.1 F.1.2.1 dX7_does_340 rfl (lv_at hl 1 rfl) ?_
    refine tr_get F hd hM 15 (by decide) q1735 (congrArg (fun z => some (Value.int z)) hz) dX7_does_341 ?_
    refine mc_Va (As := [_, _]) F hM (ct_mends l hd (by omega) (by omega)) (cwV 2 F.1.2.2.2.2 (lw_V q1939 q1941 qs55 q88 q1942) rfl rfl rfl (by decide +kernel) (mRm_ok (by decide) (by decide))) (tM_0 hd) rfl rfl rfl rfl hl.1 rfl (Nat.le_of_ble_eq_true rfl) dX7_does_344 ⟨Nat.le_of_ble_eq_true rfl, Nat.le_of_ble_eq_true rfl⟩ (fun H locs hM => ?_)
    refine lv_istore_n (lv' := [(1, _), (0, _)]) F.1.1 F.1.2.1 dX7_does_347 rfl hl (by decide) rfl (fun ls hl => ?_)
    refine mr_iconst F 1 dX7_does_348 (by decide +kernel) ?_
    exact mr_zret F hQ (by first | rfl | exact nZ_bI _) hM (by rw [hE]; exact ⟨rfl, rfl⟩) (Nat.le_of_ble_eq_true rfl) (Nat.le_of_ble_eq_true rfl) dX7_does_349
