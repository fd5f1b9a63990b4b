/-! the reference: sixth lot -/
set_option maxRecDepth 100000
theorem gp_X2_costOf : gPar yX2_costOf 2 := ⟨⟨by decide, by decide⟩, by decide +kernel⟩
theorem gp_X2_isInGate : gPar yX2_isInGate 2 := ⟨⟨by decide, by decide⟩, by decide +kernel⟩
theorem gp_X2_tryFrom : gPar yX2_tryFrom 4 := ⟨⟨by decide, by decide⟩, by decide +kernel⟩
set_option maxHeartbeats 4000000 in
set_option maxRecDepth 100000 in
/-- beginTrack -/
theorem met_X2_beginTrack (l : Launch) (K : gK) (mo : Nat) (A : mA) (σ : mS) (h : Nat) (h15 : mn σ 15 < 40) (hh : h < 8) (h7 : mn σ 7 < 64) (hs0 : mb σ 9 h < 4) (hv : ¬ (ma σ 6 (mb σ 9 h)).toInt64 = 0) : mMet l K mo A yX2_beginTrack cX2_beginTrack 3 (none) 3 118 [.int (nI (h))] σ (none) (m_beginTrack σ h) := by
  intro G hR0
  refine gMet.of (by decide) (Nat.le_of_ble_eq_true rfl) (fun p e s m below meth c ls hx hb X hr hin hG hS hl => ?_)
  have X : gC K p s m _ meth c cX2_beginTrack 3 "KalmanQuayModel" := X
  have hM := mPre hR0 hG
  have hl : lv_has ls 3 [(0, .ref (mo)), (1, .int (nI (h)))] := hl
  refine lv_aload_n hx hb dX2_beginTrack_0 rfl (lv_at hl 0 rfl) ?_
  refine mf15 X hM dX2_beginTrack_1 ?_
  refine lv_istore_n (lv' := [(2, .int (nI (mn σ 15))), (0, .ref (mo)), (1, .int (nI (h)))]) hx hb dX2_beginTrack_4 rfl hl (by decide) rfl (fun ls hl => ?_)
  refine lv_aload_n hx hb dX2_beginTrack_5 rfl (lv_at hl 1 rfl) ?_
  refine lv_dup hx hb dX2_beginTrack_6 rfl ?_
  refine mf15 X hM dX2_beginTrack_7 ?_
  refine lv_iconst (v := 1) hx hb dX2_beginTrack_10 (by decide) ?_
  refine lv_iadd hx hb dX2_beginTrack_11 ?_
  refine g_topN (n_add (a := mn σ 15) (b := 1) rfl rfl) ?_
  refine mp15 X hM hS (v := (mn σ 15) + 1) rfl dX2_beginTrack_12 (fun H locs hM hS => ?_)
  refine lv_aload_n hx hb dX2_beginTrack_15 rfl (lv_at hl 1 rfl) ?_
  refine mf25 X hM dX2_beginTrack_16 ?_
  refine lv_iload_n hx hb dX2_beginTrack_19 rfl (lv_at hl 0 rfl) ?_
  refine m_aaN X hM rfl (by omega) dX2_beginTrack_20 ?_
  refine lv_iconst (v := 0) hx hb dX2_beginTrack_21 (by decide) ?_
  refine lv_ldc2 (v := 256) hx hb X.1.2.2.2.1 (X.1.2.2.2.2 _ q1511) dX2_beginTrack_22 ?_
  refine lv_aload_n hx hb dX2_beginTrack_25 rfl (lv_at hl 1 rfl) ?_
  refine mf10 X hM dX2_beginTrack_26 ?_
  refine lv_iload_n hx hb dX2_beginTrack_29 rfl (lv_at hl 2 rfl) ?_
  refine m_lda X hM 10 8 rfl rfl (by omega) (by decide) dX2_beginTrack_30 ?_
  refine g_topE (z := ma σ 10 h) (by simp [ma_sn]) ?_
  refine lv_i2l hx hb dX2_beginTrack_31 rfl ?_
  refine lv_lmul hx hb dX2_beginTrack_32 ?_
  refine m_stN X hM hS rfl (by omega) (by decide) dX2_beginTrack_33 (fun H locs hM hS => ?_)
  refine lv_aload_n hx hb dX2_beginTrack_34 rfl (lv_at hl 1 rfl) ?_
  refine mf25 X hM dX2_beginTrack_35 ?_
  refine lv_iload_n hx hb dX2_beginTrack_38 rfl (lv_at hl 0 rfl) ?_
  refine m_aaN X hM rfl (by omega) dX2_beginTrack_39 ?_
  refine lv_iconst (v := 1) hx hb dX2_beginTrack_40 (by decide) ?_
  refine lv_lconst (v := 0) hx hb dX2_beginTrack_41 rfl ?_
  refine m_stN X hM hS rfl (by omega) (by decide) dX2_beginTrack_42 (fun H locs hM hS => ?_)
  refine lv_aload_n hx hb dX2_beginTrack_43 rfl (lv_at hl 1 rfl) ?_
  refine mf25 X hM dX2_beginTrack_44 ?_
  refine lv_iload_n hx hb dX2_beginTrack_47 rfl (lv_at hl 0 rfl) ?_
  refine m_aaN X hM rfl (by omega) dX2_beginTrack_48 ?_
  refine lv_iconst (v := 2) hx hb dX2_beginTrack_49 (by decide) ?_
  refine lv_ldc2 (v := 256) hx hb X.1.2.2.2.1 (X.1.2.2.2.2 _ q1511) dX2_beginTrack_50 ?_
  refine lv_aload_n hx hb dX2_beginTrack_53 rfl (lv_at hl 1 rfl) ?_
  refine mf6 X hM dX2_beginTrack_54 ?_
  refine lv_aload_n hx hb dX2_beginTrack_57 rfl (lv_at hl 1 rfl) ?_
  refine mf9 X hM dX2_beginTrack_58 ?_
  refine lv_iload_n hx hb dX2_beginTrack_61 rfl (lv_at hl 2 rfl) ?_
  refine m_ldb X hM 9 8 rfl rfl (by omega) (by decide) dX2_beginTrack_62 ?_
  refine g_topE (z := nI (mb σ 9 h)) (by simp [mb_sN, mb_sn]) ?_
  refine m_lda X hM 6 4 rfl rfl (by omega) (by decide) dX2_beginTrack_63 ?_
  refine g_topE (z := ma σ 6 (mb σ 9 h)) (by simp [ma_sN, ma_sn]) ?_
  refine lv_i2l hx hb dX2_beginTrack_64 rfl ?_
  refine lv_lmul hx hb dX2_beginTrack_65 ?_
  refine m_stN X hM hS rfl (by omega) (by decide) dX2_beginTrack_66 (fun H locs hM hS => ?_)
  refine lv_aload_n hx hb dX2_beginTrack_67 rfl (lv_at hl 1 rfl) ?_
  refine mf25 X hM dX2_beginTrack_68 ?_
  refine lv_iload_n hx hb dX2_beginTrack_71 rfl (lv_at hl 0 rfl) ?_
  refine m_aaN X hM rfl (by omega) dX2_beginTrack_72 ?_
  refine lv_iconst (v := 3) hx hb dX2_beginTrack_73 (by decide) ?_
  refine lv_lconst (v := 0) hx hb dX2_beginTrack_74 rfl ?_
  refine m_stN X hM hS rfl (by omega) (by decide) dX2_beginTrack_75 (fun H locs hM hS => ?_)
  refine lv_aload_n hx hb dX2_beginTrack_76 rfl (lv_at hl 1 rfl) ?_
  refine mf25 X hM dX2_beginTrack_77 ?_
  refine lv_iload_n hx hb dX2_beginTrack_80 rfl (lv_at hl 0 rfl) ?_
  refine m_aaN X hM rfl (by omega) dX2_beginTrack_81 ?_
  refine lv_iconst (v := 4) hx hb dX2_beginTrack_82 (by decide) ?_
  refine lv_aload_n hx hb dX2_beginTrack_83 rfl (lv_at hl 1 rfl) ?_
  refine mf4 X hM dX2_beginTrack_84 ?_
  refine g_topE (z := mz σ 4) (by simp [mz_sN, mz_sn]) ?_
  refine lv_i2l hx hb dX2_beginTrack_87 rfl ?_
  refine m_stN X hM hS rfl (by omega) (by decide) dX2_beginTrack_88 (fun H locs hM hS => ?_)
  refine lv_aload_n hx hb dX2_beginTrack_89 rfl (lv_at hl 1 rfl) ?_
  refine lv_iload_n hx hb dX2_beginTrack_90 rfl (lv_at hl 0 rfl) ?_
  refine m_call X (met_X2_holdAll l K mo A (sN (sN (sN (sN (sN (sn σ 15 ((mn σ 15) + 1)) (mn σ 15) 0 (256 * ((ma σ 10 h).toInt64))) (mn σ 15) 1 (0)) (mn σ 15) 2 (256 * ((ma σ 6 (mb σ 9 h)).toInt64))) (mn σ 15) 3 (0)) (mn σ 15) 4 ((mz σ 4).toInt64)) (mn σ 15) (by omega)) gp_X2_holdAll rfl q1479 q1481 qs18 q42 q1482 hM hS hl ⟨Nat.le_of_ble_eq_true rfl, Nat.le_of_ble_eq_true rfl⟩ ⟨Nat.le_refl _, Nat.le_refl _⟩ (rest := []) (Nat.le_of_ble_eq_true rfl) rfl dX2_beginTrack_91 (fun H locs hM hS => ?_)
  refine W.eq (g2 := F0 m 94 ls []) rfl ?_
  refine lv_aload_n hx hb dX2_beginTrack_94 rfl (lv_at hl 1 rfl) ?_
  refine mf25 X hM dX2_beginTrack_95 ?_
  refine lv_iload_n hx hb dX2_beginTrack_98 rfl (lv_at hl 0 rfl) ?_
  refine m_aaN X hM rfl (by omega) dX2_beginTrack_99 ?_
  refine lv_aload_n hx hb dX2_beginTrack_100 rfl (lv_at hl 1 rfl) ?_
  refine mf27 X hM dX2_beginTrack_101 ?_
  refine lv_iload_n hx hb dX2_beginTrack_104 rfl (lv_at hl 0 rfl) ?_
  refine m_aaF1 X hM rfl (by omega) dX2_beginTrack_105 ?_
  refine lv_aload_n hx hb dX2_beginTrack_106 rfl (lv_at hl 1 rfl) ?_
  refine mf7 X hM dX2_beginTrack_107 ?_
  refine g_topE (z := nI (mn σ 7)) (by simp [mn_m_holdAll, mn_sN, mn_sn]) ?_
  refine m_aaF2 X hM rfl (by omega) (by omega) dX2_beginTrack_110 ?_
  refine m_copyF X q1492 (by omega) (by omega) hM hS hl ⟨Nat.le_of_ble_eq_true rfl, Nat.le_of_ble_eq_true rfl⟩ ⟨Nat.le_refl _, Nat.le_refl _⟩ (rest := []) (Nat.le_of_ble_eq_true rfl) dX2_beginTrack_111 (fun H locs hM hS => ?_)
  refine W.eq (g2 := F0 m 114 ls []) rfl ?_
  refine lv_aload_n hx hb dX2_beginTrack_114 rfl (lv_at hl 1 rfl) ?_
  refine mf16 X hM dX2_beginTrack_115 ?_
  refine lv_iload_n hx hb dX2_beginTrack_118 rfl (lv_at hl 0 rfl) ?_
  refine lv_iconst (v := 1) hx hb dX2_beginTrack_119 (by decide) ?_
  refine m_stc X hM hS 16 40 (fun _ => rfl) rfl (by omega) (by decide) (by decide) (v := true) rfl dX2_beginTrack_120 (fun H locs hM hS => ?_)
  refine lv_aload_n hx hb dX2_beginTrack_121 rfl (lv_at hl 1 rfl) ?_
  refine mf17 X hM dX2_beginTrack_122 ?_
  refine lv_iload_n hx hb dX2_beginTrack_125 rfl (lv_at hl 0 rfl) ?_
  refine lv_iconst (v := 0) hx hb dX2_beginTrack_126 (by decide) ?_
  refine m_stc X hM hS 17 40 (fun _ => rfl) rfl (by omega) (by decide) (by decide) (v := false) rfl dX2_beginTrack_127 (fun H locs hM hS => ?_)
  refine lv_aload_n hx hb dX2_beginTrack_128 rfl (lv_at hl 1 rfl) ?_
  refine mf18 X hM dX2_beginTrack_129 ?_
  refine lv_iload_n hx hb dX2_beginTrack_132 rfl (lv_at hl 0 rfl) ?_
  refine lv_iconst (v := 1) hx hb dX2_beginTrack_133 (by decide) ?_
  refine m_stc X hM hS 18 40 (fun _ => rfl) rfl (by omega) (by decide) (by decide) (v := true) rfl dX2_beginTrack_134 (fun H locs hM hS => ?_)
  refine lv_aload_n hx hb dX2_beginTrack_135 rfl (lv_at hl 1 rfl) ?_
  refine mf20 X hM dX2_beginTrack_136 ?_
  refine lv_iload_n hx hb dX2_beginTrack_139 rfl (lv_at hl 0 rfl) ?_
  refine lv_aload_n hx hb dX2_beginTrack_140 rfl (lv_at hl 1 rfl) ?_
  refine mf7 X hM dX2_beginTrack_141 ?_
  refine g_topE (z := nI (mn σ 7)) (by simp [mn_sc, mn_cF, mn_m_holdAll, mn_sN, mn_sn]) ?_
  refine m_stb X hM hS 20 40 (fun _ => rfl) rfl (by omega) (by decide) (by decide) (v := mn σ 7) rfl dX2_beginTrack_144 (fun H locs hM hS => ?_)
  refine lv_aload_n hx hb dX2_beginTrack_145 rfl (lv_at hl 1 rfl) ?_
  refine mf22 X hM dX2_beginTrack_146 ?_
  refine lv_iload_n hx hb dX2_beginTrack_149 rfl (lv_at hl 0 rfl) ?_
  refine lv_iconst (v := 1) hx hb dX2_beginTrack_150 (by decide) ?_
  refine m_stb X hM hS 22 40 (fun _ => rfl) rfl (by omega) (by decide) (by decide) (v := 1) rfl dX2_beginTrack_151 (fun H locs hM hS => ?_)
  refine lv_aload_n hx hb dX2_beginTrack_152 rfl (lv_at hl 1 rfl) ?_
  refine mf23 X hM dX2_beginTrack_153 ?_
  refine lv_iload_n hx hb dX2_beginTrack_156 rfl (lv_at hl 0 rfl) ?_
  refine lv_iconst (v := 0) hx hb dX2_beginTrack_157 (by decide) ?_
  refine m_stb X hM hS 23 40 (fun _ => rfl) rfl (by omega) (by decide) (by decide) (v := 0) rfl dX2_beginTrack_158 (fun H locs hM hS => ?_)
  refine lv_aload_n hx hb dX2_beginTrack_159 rfl (lv_at hl 1 rfl) ?_
  refine mf24 X hM dX2_beginTrack_160 ?_
  refine lv_iload_n hx hb dX2_beginTrack_163 rfl (lv_at hl 0 rfl) ?_
  refine lv_iconst (v := 0) hx hb dX2_beginTrack_164 (by decide) ?_
  refine m_stb X hM hS 24 40 (fun _ => rfl) rfl (by omega) (by decide) (by decide) (v := 0) rfl dX2_beginTrack_165 (fun H locs hM hS => ?_)
  refine lv_aload_n hx hb dX2_beginTrack_166 rfl (lv_at hl 1 rfl) ?_
  refine mf28 X hM dX2_beginTrack_167 ?_
  refine lv_iload_n hx hb dX2_beginTrack_170 rfl (lv_at hl 0 rfl) ?_
  refine lv_lconst (v := 0) hx hb dX2_beginTrack_171 rfl ?_
  refine m_stj X hM hS 28 40 (fun _ => rfl) rfl (by omega) (by decide) (by decide) dX2_beginTrack_172 (fun H locs hM hS => ?_)
  refine lv_aload_n hx hb dX2_beginTrack_173 rfl (lv_at hl 1 rfl) ?_
  refine mf29 X hM dX2_beginTrack_174 ?_
  refine lv_iload_n hx hb dX2_beginTrack_177 rfl (lv_at hl 0 rfl) ?_
  refine lv_lconst (v := 0) hx hb dX2_beginTrack_178 rfl ?_
  refine m_stj X hM hS 29 40 (fun _ => rfl) rfl (by omega) (by decide) (by decide) dX2_beginTrack_179 (fun H locs hM hS => ?_)
  refine lv_aload_n hx hb dX2_beginTrack_180 rfl (lv_at hl 1 rfl) ?_
  refine mf30 X hM dX2_beginTrack_181 ?_
  refine lv_iload_n hx hb dX2_beginTrack_184 rfl (lv_at hl 0 rfl) ?_
  refine lv_lconst (v := 0) hx hb dX2_beginTrack_185 rfl ?_
  refine m_stj X hM hS 30 40 (fun _ => rfl) rfl (by omega) (by decide) (by decide) dX2_beginTrack_186 (fun H locs hM hS => ?_)
  refine lv_aload_n hx hb dX2_beginTrack_187 rfl (lv_at hl 1 rfl) ?_
  refine mf31 X hM dX2_beginTrack_188 ?_
  refine lv_iload_n hx hb dX2_beginTrack_191 rfl (lv_at hl 0 rfl) ?_
  refine lv_lconst (v := 0) hx hb dX2_beginTrack_192 rfl ?_
  refine m_stj X hM hS 31 40 (fun _ => rfl) rfl (by omega) (by decide) (by decide) dX2_beginTrack_193 (fun H locs hM hS => ?_)
  refine lv_aload_n hx hb dX2_beginTrack_194 rfl (lv_at hl 1 rfl) ?_
  refine mf32 X hM dX2_beginTrack_195 ?_
  refine lv_iload_n hx hb dX2_beginTrack_198 rfl (lv_at hl 0 rfl) ?_
  refine lv_lconst (v := 0) hx hb dX2_beginTrack_199 rfl ?_
  refine m_stj X hM hS 32 40 (fun _ => rfl) rfl (by omega) (by decide) (by decide) dX2_beginTrack_200 (fun H locs hM hS => ?_)
  refine lv_aload_n hx hb dX2_beginTrack_201 rfl (lv_at hl 1 rfl) ?_
  refine lv_iload_n hx hb dX2_beginTrack_202 rfl (lv_at hl 0 rfl) ?_
  refine lv_iload_n hx hb dX2_beginTrack_203 rfl (lv_at hl 2 rfl) ?_
  refine m_call X (met_X2_note l K mo A (sj (sj (sj (sj (sj (sb (sb (sb (sb (sc (sc (sc (cF (m_holdAll (sN (sN (sN (sN (sN (sn σ 15 ((mn σ 15) + 1)) (mn σ 15) 0 (256 * ((ma σ 10 h).toInt64))) (mn σ 15) 1 (0)) (mn σ 15) 2 (256 * ((ma σ 6 (mb σ 9 h)).toInt64))) (mn σ 15) 3 (0)) (mn σ 15) 4 ((mz σ 4).toInt64)) (mn σ 15)) (mn σ 15) (mn σ 7)) 16 (mn σ 15) (true)) 17 (mn σ 15) (false)) 18 (mn σ 15) (true)) 20 (mn σ 15) (mn σ 7)) 22 (mn σ 15) (1)) 23 (mn σ 15) (0)) 24 (mn σ 15) (0)) 28 (mn σ 15) (0)) 29 (mn σ 15) (0)) 30 (mn σ 15) (0)) 31 (mn σ 15) (0)) 32 (mn σ 15) (0)) (mn σ 15) (h) (by omega) hh (by simpa [mb_sj, mb_sb, mb_sc, mb_cF, mb_m_holdAll, mb_sN, mb_sn] using hs0) (by simpa [ma_sj, ma_sb, ma_sc, ma_cF, ma_m_holdAll, ma_sN, ma_sn, mb_sj, mb_sb, mb_sc, mb_cF, mb_m_holdAll, mb_sN, mb_sn] using hv)) gp_X2_note rfl q1527 q1529 qs26 q42 q1530 hM hS hl ⟨Nat.le_of_ble_eq_true rfl, Nat.le_of_ble_eq_true rfl⟩ ⟨Nat.le_refl _, Nat.le_refl _⟩ (rest := []) (Nat.le_of_ble_eq_true rfl) rfl dX2_beginTrack_204 (fun H locs hM hS => ?_)
  refine W.eq (g2 := F0 m 207 ls []) rfl ?_
  refine lv_aload_n hx hb dX2_beginTrack_207 rfl (lv_at hl 1 rfl) ?_
  refine mf12 X hM dX2_beginTrack_208 ?_
  refine lv_iload_n hx hb dX2_beginTrack_211 rfl (lv_at hl 2 rfl) ?_
  refine lv_iload_n hx hb dX2_beginTrack_212 rfl (lv_at hl 0 rfl) ?_
  refine m_sta X hM hS 12 8 (fun _ => rfl) rfl (by omega) (by decide) (by decide) dX2_beginTrack_213 (fun H locs hM hS => ?_)
  exact m_vret X hr hM hS rfl (by simp [m_beginTrack, mn_sj, mn_sb, mn_sc, mn_cF, mn_m_holdAll, mn_sN, mn_sn, ma_sN, ma_sn, mb_sN, mb_sn, mz_sN, mz_sn]) (Nat.le_refl _) (Nat.le_refl _) dX2_beginTrack_214
set_option maxHeartbeats 4000000 in
set_option maxRecDepth 100000 in
/-- endBeat -/
theorem met_X2_endBeat (l : Launch) (K : gK) (mo : Nat) (A : mA) (σ : mS) (t : Nat) (ht : t < 40) (h7 : mn σ 7 < 64) : mMet l K mo A yX2_endBeat cX2_endBeat 2 (none) 1 38 [.int (nI (t))] σ (none) (m_endBeat σ t) := by
  intro G hR0
  refine gMet.of (by decide) (Nat.le_of_ble_eq_true rfl) (fun p e s m below meth c ls hx hb X hr hin hG hS hl => ?_)
  have X : gC K p s m _ meth c cX2_endBeat 2 "KalmanQuayModel" := X
  have hM := mPre hR0 hG
  have hl : lv_has ls 2 [(0, .ref (mo)), (1, .int (nI (t)))] := hl
  refine lv_aload_n hx hb dX2_endBeat_0 rfl (lv_at hl 0 rfl) ?_
  refine mf25 X hM dX2_endBeat_1 ?_
  refine lv_iload_n hx hb dX2_endBeat_4 rfl (lv_at hl 1 rfl) ?_
  refine m_aaN X hM rfl (by omega) dX2_endBeat_5 ?_
  refine lv_aload_n hx hb dX2_endBeat_6 rfl (lv_at hl 0 rfl) ?_
  refine mf26 X hM dX2_endBeat_7 ?_
  refine lv_iload_n hx hb dX2_endBeat_10 rfl (lv_at hl 1 rfl) ?_
  refine m_aaB1 X hM rfl (by omega) dX2_endBeat_11 ?_
  refine lv_aload_n hx hb dX2_endBeat_12 rfl (lv_at hl 0 rfl) ?_
  refine mf7 X hM dX2_endBeat_13 ?_
  refine m_aaB2 X hM rfl (by omega) (by omega) dX2_endBeat_16 ?_
  refine m_copyB X q1492 (by omega) (by omega) hM hS hl ⟨Nat.le_of_ble_eq_true rfl, Nat.le_of_ble_eq_true rfl⟩ ⟨Nat.le_refl _, Nat.le_refl _⟩ (rest := []) (Nat.le_of_ble_eq_true rfl) dX2_endBeat_17 (fun H locs hM hS => ?_)
  refine W.eq (g2 := F0 m 20 ls []) rfl ?_
  refine lv_aload_n hx hb dX2_endBeat_20 rfl (lv_at hl 0 rfl) ?_
  refine mf21 X hM dX2_endBeat_21 ?_
  refine lv_iload_n hx hb dX2_endBeat_24 rfl (lv_at hl 1 rfl) ?_
  refine lv_aload_n hx hb dX2_endBeat_25 rfl (lv_at hl 0 rfl) ?_
  refine mf7 X hM dX2_endBeat_26 ?_
  refine g_topE (z := nI (mn σ 7)) (by simp [mn_cB]) ?_
  refine m_stb X hM hS 21 40 (fun _ => rfl) rfl (by omega) (by decide) (by decide) (v := mn σ 7) rfl dX2_endBeat_29 (fun H locs hM hS => ?_)
  refine lv_aload_n hx hb dX2_endBeat_30 rfl (lv_at hl 0 rfl) ?_
  refine mf18 X hM dX2_endBeat_31 ?_
  refine lv_iload_n hx hb dX2_endBeat_34 rfl (lv_at hl 1 rfl) ?_
  refine m_ldc X hM 18 40 rfl rfl (by omega) (by decide) dX2_endBeat_35 ?_
  refine g_topE (z := gb (mc σ 18 t)) (by simp [mc_sb, mc_cB]) ?_
  refine g_ifb_ne hx hb 113 dX2_endBeat_36 (by decide) (fun c_36 => ?_) (fun c_36 => ?_)
  · skip
    refine lv_aload_n hx hb dX2_endBeat_113 rfl (lv_at hl 0 rfl) ?_
    refine mf17 X hM dX2_endBeat_114 ?_
    refine lv_iload_n hx hb dX2_endBeat_117 rfl (lv_at hl 1 rfl) ?_
    refine lv_aload_n hx hb dX2_endBeat_118 rfl (lv_at hl 0 rfl) ?_
    refine mf17 X hM dX2_endBeat_119 ?_
    refine lv_iload_n hx hb dX2_endBeat_122 rfl (lv_at hl 1 rfl) ?_
    refine m_ldc X hM 17 40 rfl rfl (by omega) (by decide) dX2_endBeat_123 ?_
    refine g_topE (z := gb (mc σ 17 t)) (by simp [mc_sb, mc_cB]) ?_
    refine g_ifb_ne hx hb 149 dX2_endBeat_124 (by decide) (fun c_124 => ?_) (fun c_124 => ?_)
    · skip
      refine lv_iconst (v := 1) hx hb dX2_endBeat_149 (by decide) ?_
      refine lv_goto (tgt := 154) hx hb dX2_endBeat_150 (by decide) ?_
      refine m_stc X hM hS 17 40 (fun _ => rfl) rfl (by omega) (by decide) (by decide) (v := true) rfl dX2_endBeat_154 (fun H locs hM hS => ?_)
      exact m_vret X hr hM hS rfl (by simp [m_endBeat, m_endAge, mb_sc, mb_sb, mb_cB, mc_sc, mc_sb, mc_cB, mn_cB, mz_sb, mz_sc, mz_cB, c_36, c_124]) (Nat.le_refl _) (Nat.le_refl _) dX2_endBeat_155
    · skip
      refine lv_aload_n hx hb dX2_endBeat_127 rfl (lv_at hl 0 rfl) ?_
      refine mf16 X hM dX2_endBeat_128 ?_
      refine lv_iload_n hx hb dX2_endBeat_131 rfl (lv_at hl 1 rfl) ?_
      refine m_ldc X hM 16 40 rfl rfl (by omega) (by decide) dX2_endBeat_132 ?_
      refine g_topE (z := gb (mc σ 16 t)) (by simp [mc_sb, mc_cB]) ?_
      refine g_ifb_eq hx hb 153 dX2_endBeat_133 (by decide) (fun c_133 => ?_) (fun c_133 => ?_)
      · skip
        refine lv_iconst (v := 0) hx hb dX2_endBeat_153 (by decide) ?_
        refine m_stc X hM hS 17 40 (fun _ => rfl) rfl (by omega) (by decide) (by decide) (v := false) rfl dX2_endBeat_154 (fun H locs hM hS => ?_)
        exact m_vret X hr hM hS rfl (by simp [m_endBeat, m_endAge, mb_sc, mb_sb, mb_cB, mc_sc, mc_sb, mc_cB, mn_cB, mz_sb, mz_sc, mz_cB, c_36, c_124, c_133]) (Nat.le_refl _) (Nat.le_refl _) dX2_endBeat_155
      · skip
        refine lv_aload_n hx hb dX2_endBeat_136 rfl (lv_at hl 0 rfl) ?_
        refine mf22 X hM dX2_endBeat_137 ?_
        refine lv_iload_n hx hb dX2_endBeat_140 rfl (lv_at hl 1 rfl) ?_
        refine m_ldb X hM 22 40 rfl rfl (by omega) (by decide) dX2_endBeat_141 ?_
        refine g_topE (z := nI (mb σ 22 t)) (by simp [mb_sb, mb_cB]) ?_
        refine lv_aload_n hx hb dX2_endBeat_142 rfl (lv_at hl 0 rfl) ?_
        refine mf3 X hM dX2_endBeat_143 ?_
        refine g_topE (z := mz σ 3) (by simp [mz_sb, mz_cB]) ?_
        refine lv_icmp_lt (tgt := 153) hx hb dX2_endBeat_146 (by decide) (fun c_146 => ?_) (fun c_146 => ?_)
        · skip
          refine lv_iconst (v := 0) hx hb dX2_endBeat_153 (by decide) ?_
          refine m_stc X hM hS 17 40 (fun _ => rfl) rfl (by omega) (by decide) (by decide) (v := false) rfl dX2_endBeat_154 (fun H locs hM hS => ?_)
          exact m_vret X hr hM hS rfl (by simp [m_endBeat, m_endAge, mb_sc, mb_sb, mb_cB, mc_sc, mc_sb, mc_cB, mn_cB, mz_sb, mz_sc, mz_cB, c_36, c_124, c_133, Int32.not_le.mpr c_146]) (Nat.le_refl _) (Nat.le_refl _) dX2_endBeat_155
        · skip
          refine lv_iconst (v := 1) hx hb dX2_endBeat_149 (by decide) ?_
          refine lv_goto (tgt := 154) hx hb dX2_endBeat_150 (by decide) ?_
          refine m_stc X hM hS 17 40 (fun _ => rfl) rfl (by omega) (by decide) (by decide) (v := true) rfl dX2_endBeat_154 (fun H locs hM hS => ?_)
          exact m_vret X hr hM hS rfl (by simp [m_endBeat, m_endAge, mb_sc, mb_sb, mb_cB, mc_sc, mc_sb, mc_cB, mn_cB, mz_sb, mz_sc, mz_cB, c_36, c_124, c_133, Int32.not_lt.mp c_146]) (Nat.le_refl _) (Nat.le_refl _) dX2_endBeat_155
  · skip
    refine lv_aload_n hx hb dX2_endBeat_39 rfl (lv_at hl 0 rfl) ?_
    refine mf22 X hM dX2_endBeat_40 ?_
    refine lv_iload_n hx hb dX2_endBeat_43 rfl (lv_at hl 1 rfl) ?_
    refine lv_dup2_11 hx hb dX2_endBeat_44 rfl rfl ?_
    refine m_ldb X hM 22 40 rfl rfl (by omega) (by decide) dX2_endBeat_45 ?_
    refine g_topE (z := nI (mb σ 22 t)) (by simp [mb_sb, mb_cB]) ?_
    refine lv_aload_n hx hb dX2_endBeat_46 rfl (lv_at hl 0 rfl) ?_
    refine mf19 X hM dX2_endBeat_47 ?_
    refine lv_iload_n hx hb dX2_endBeat_50 rfl (lv_at hl 1 rfl) ?_
    refine m_ldc X hM 19 40 rfl rfl (by omega) (by decide) dX2_endBeat_51 ?_
    refine g_topE (z := gb (mc σ 19 t)) (by simp [mc_sb, mc_cB]) ?_
    refine g_ifb_eq hx hb 59 dX2_endBeat_52 (by decide) (fun c_52 => ?_) (fun c_52 => ?_)
    · skip
      refine lv_iconst (v := 0) hx hb dX2_endBeat_59 (by decide) ?_
      refine lv_iadd hx hb dX2_endBeat_60 ?_
      refine g_topN (n_add (a := mb σ 22 t) (b := 0) rfl rfl) ?_
      refine m_stb X hM hS 22 40 (fun _ => rfl) rfl (by omega) (by decide) (by decide) (v := mb σ 22 t) rfl dX2_endBeat_61 (fun H locs hM hS => ?_)
      refine lv_aload_n hx hb dX2_endBeat_62 rfl (lv_at hl 0 rfl) ?_
      refine mf23 X hM dX2_endBeat_63 ?_
      refine lv_iload_n hx hb dX2_endBeat_66 rfl (lv_at hl 1 rfl) ?_
      refine lv_aload_n hx hb dX2_endBeat_67 rfl (lv_at hl 0 rfl) ?_
      refine mf19 X hM dX2_endBeat_68 ?_
      refine lv_iload_n hx hb dX2_endBeat_71 rfl (lv_at hl 1 rfl) ?_
      refine m_ldc X hM 19 40 rfl rfl (by omega) (by decide) dX2_endBeat_72 ?_
      refine g_topE (z := gb (mc σ 19 t)) (by simp [mc_sb, mc_cB]) ?_
      refine g_ifb_eq hx hb 80 dX2_endBeat_73 (by decide) (fun c_73 => ?_) (fun c_73 => ?_)
      · skip
        refine lv_aload_n hx hb dX2_endBeat_80 rfl (lv_at hl 0 rfl) ?_
        refine mf23 X hM dX2_endBeat_81 ?_
        refine lv_iload_n hx hb dX2_endBeat_84 rfl (lv_at hl 1 rfl) ?_
        refine m_ldb X hM 23 40 rfl rfl (by omega) (by decide) dX2_endBeat_85 ?_
        refine g_topE (z := nI (mb σ 23 t)) (by simp [mb_sb, mb_cB]) ?_
        refine lv_iconst (v := 1) hx hb dX2_endBeat_86 (by decide) ?_
        refine lv_iadd hx hb dX2_endBeat_87 ?_
        refine g_topN (n_add (a := mb σ 23 t) (b := 1) rfl rfl) ?_
        refine m_stb X hM hS 23 40 (fun _ => rfl) rfl (by omega) (by decide) (by decide) (v := (mb σ 23 t) + 1) rfl dX2_endBeat_88 (fun H locs hM hS => ?_)
        refine lv_aload_n hx hb dX2_endBeat_89 rfl (lv_at hl 0 rfl) ?_
        refine mf16 X hM dX2_endBeat_90 ?_
        refine lv_iload_n hx hb dX2_endBeat_93 rfl (lv_at hl 1 rfl) ?_
        refine lv_aload_n hx hb dX2_endBeat_94 rfl (lv_at hl 0 rfl) ?_
        refine mf23 X hM dX2_endBeat_95 ?_
        refine lv_iload_n hx hb dX2_endBeat_98 rfl (lv_at hl 1 rfl) ?_
        refine m_ldb X hM 23 40 rfl rfl (by omega) (by decide) dX2_endBeat_99 ?_
        refine g_topE (z := nI ((mb σ 23 t) + 1)) (by simp [mb_sb]) ?_
        refine lv_aload_n hx hb dX2_endBeat_100 rfl (lv_at hl 0 rfl) ?_
        refine mf2 X hM dX2_endBeat_101 ?_
        refine g_topE (z := mz σ 2) (by simp [mz_sb, mz_cB]) ?_
        refine lv_icmp_gt (tgt := 111) hx hb dX2_endBeat_104 (by decide) (fun c_104 => ?_) (fun c_104 => ?_)
        · skip
          refine lv_iconst (v := 0) hx hb dX2_endBeat_111 (by decide) ?_
          refine m_stc X hM hS 16 40 (fun _ => rfl) rfl (by omega) (by decide) (by decide) (v := false) rfl dX2_endBeat_112 (fun H locs hM hS => ?_)
          refine lv_aload_n hx hb dX2_endBeat_113 rfl (lv_at hl 0 rfl) ?_
          refine mf17 X hM dX2_endBeat_114 ?_
          refine lv_iload_n hx hb dX2_endBeat_117 rfl (lv_at hl 1 rfl) ?_
          refine lv_aload_n hx hb dX2_endBeat_118 rfl (lv_at hl 0 rfl) ?_
          refine mf17 X hM dX2_endBeat_119 ?_
          refine lv_iload_n hx hb dX2_endBeat_122 rfl (lv_at hl 1 rfl) ?_
          refine m_ldc X hM 17 40 rfl rfl (by omega) (by decide) dX2_endBeat_123 ?_
          refine g_topE (z := gb (mc σ 17 t)) (by simp [mc_sc, mc_sb, mc_cB]) ?_
          refine g_ifb_ne hx hb 149 dX2_endBeat_124 (by decide) (fun c_124 => ?_) (fun c_124 => ?_)
          · skip
            refine lv_iconst (v := 1) hx hb dX2_endBeat_149 (by decide) ?_
            refine lv_goto (tgt := 154) hx hb dX2_endBeat_150 (by decide) ?_
            refine m_stc X hM hS 17 40 (fun _ => rfl) rfl (by omega) (by decide) (by decide) (v := true) rfl dX2_endBeat_154 (fun H locs hM hS => ?_)
            exact m_vret X hr hM hS rfl (by simp [m_endBeat, m_endAge, mb_sc, mb_sb, mb_cB, mc_sc, mc_sb, mc_cB, mn_cB, mz_sb, mz_sc, mz_cB, c_36, c_52, c_73, c_124, Int32.not_le.mpr c_104]) (Nat.le_refl _) (Nat.le_refl _) dX2_endBeat_155
          · skip
            refine lv_aload_n hx hb dX2_endBeat_127 rfl (lv_at hl 0 rfl) ?_
            refine mf16 X hM dX2_endBeat_128 ?_
            refine lv_iload_n hx hb dX2_endBeat_131 rfl (lv_at hl 1 rfl) ?_
            refine m_ldc X hM 16 40 rfl rfl (by omega) (by decide) dX2_endBeat_132 ?_
            refine g_topE (z := gb false) (by simp [mc_sc]) ?_
            refine g_ifb_eq hx hb 153 dX2_endBeat_133 (by decide) (fun c_133 => ?_) (fun c_133 => ?_)
            · skip
              refine lv_iconst (v := 0) hx hb dX2_endBeat_153 (by decide) ?_
              refine m_stc X hM hS 17 40 (fun _ => rfl) rfl (by omega) (by decide) (by decide) (v := false) rfl dX2_endBeat_154 (fun H locs hM hS => ?_)
              exact m_vret X hr hM hS rfl (by simp [m_endBeat, m_endAge, mb_sc, mb_sb, mb_cB, mc_sc, mc_sb, mc_cB, mn_cB, mz_sb, mz_sc, mz_cB, c_36, c_52, c_73, c_124, Int32.not_le.mpr c_104]) (Nat.le_refl _) (Nat.le_refl _) dX2_endBeat_155
            · skip
              exact absurd c_133 (by decide)
        · skip
          refine lv_iconst (v := 1) hx hb dX2_endBeat_107 (by decide) ?_
          refine lv_goto (tgt := 112) hx hb dX2_endBeat_108 (by decide) ?_
          refine m_stc X hM hS 16 40 (fun _ => rfl) rfl (by omega) (by decide) (by decide) (v := true) rfl dX2_endBeat_112 (fun H locs hM hS => ?_)
          refine lv_aload_n hx hb dX2_endBeat_113 rfl (lv_at hl 0 rfl) ?_
          refine mf17 X hM dX2_endBeat_114 ?_
          refine lv_iload_n hx hb dX2_endBeat_117 rfl (lv_at hl 1 rfl) ?_
          refine lv_aload_n hx hb dX2_endBeat_118 rfl (lv_at hl 0 rfl) ?_
          refine mf17 X hM dX2_endBeat_119 ?_
          refine lv_iload_n hx hb dX2_endBeat_122 rfl (lv_at hl 1 rfl) ?_
          refine m_ldc X hM 17 40 rfl rfl (by omega) (by decide) dX2_endBeat_123 ?_
          refine g_topE (z := gb (mc σ 17 t)) (by simp [mc_sc, mc_sb, mc_cB]) ?_
          refine g_ifb_ne hx hb 149 dX2_endBeat_124 (by decide) (fun c_124 => ?_) (fun c_124 => ?_)
          · skip
            refine lv_iconst (v := 1) hx hb dX2_endBeat_149 (by decide) ?_
            refine lv_goto (tgt := 154) hx hb dX2_endBeat_150 (by decide) ?_
            refine m_stc X hM hS 17 40 (fun _ => rfl) rfl (by omega) (by decide) (by decide) (v := true) rfl dX2_endBeat_154 (fun H locs hM hS => ?_)
            exact m_vret X hr hM hS rfl (by simp [m_endBeat, m_endAge, mb_sc, mb_sb, mb_cB, mc_sc, mc_sb, mc_cB, mn_cB, mz_sb, mz_sc, mz_cB, c_36, c_52, c_73, c_124, Int32.not_lt.mp c_104]) (Nat.le_refl _) (Nat.le_refl _) dX2_endBeat_155
          · skip
            refine lv_aload_n hx hb dX2_endBeat_127 rfl (lv_at hl 0 rfl) ?_
            refine mf16 X hM dX2_endBeat_128 ?_
            refine lv_iload_n hx hb dX2_endBeat_131 rfl (lv_at hl 1 rfl) ?_
            refine m_ldc X hM 16 40 rfl rfl (by omega) (by decide) dX2_endBeat_132 ?_
            refine g_topE (z := gb true) (by simp [mc_sc]) ?_
            refine g_ifb_eq hx hb 153 dX2_endBeat_133 (by decide) (fun c_133 => ?_) (fun c_133 => ?_)
            · skip
              exact absurd c_133 (by decide)
            · skip
              refine lv_aload_n hx hb dX2_endBeat_136 rfl (lv_at hl 0 rfl) ?_
              refine mf22 X hM dX2_endBeat_137 ?_
              refine lv_iload_n hx hb dX2_endBeat_140 rfl (lv_at hl 1 rfl) ?_
              refine m_ldb X hM 22 40 rfl rfl (by omega) (by decide) dX2_endBeat_141 ?_
              refine g_topE (z := nI (mb σ 22 t)) (by simp [mb_sc, mb_sb]) ?_
              refine lv_aload_n hx hb dX2_endBeat_142 rfl (lv_at hl 0 rfl) ?_
              refine mf3 X hM dX2_endBeat_143 ?_
              refine g_topE (z := mz σ 3) (by simp [mz_sc, mz_sb, mz_cB]) ?_
              refine lv_icmp_lt (tgt := 153) hx hb dX2_endBeat_146 (by decide) (fun c_146 => ?_) (fun c_146 => ?_)
              · skip
                refine lv_iconst (v := 0) hx hb dX2_endBeat_153 (by decide) ?_
                refine m_stc X hM hS 17 40 (fun _ => rfl) rfl (by omega) (by decide) (by decide) (v := false) rfl dX2_endBeat_154 (fun H locs hM hS => ?_)
                exact m_vret X hr hM hS rfl (by simp [m_endBeat, m_endAge, mb_sc, mb_sb, mb_cB, mc_sc, mc_sb, mc_cB, mn_cB, mz_sb, mz_sc, mz_cB, c_36, c_52, c_73, c_124, Int32.not_lt.mp c_104, Int32.not_le.mpr c_146]) (Nat.le_refl _) (Nat.le_refl _) dX2_endBeat_155
              · skip
                refine lv_iconst (v := 1) hx hb dX2_endBeat_149 (by decide) ?_
                refine lv_goto (tgt := 154) hx hb dX2_endBeat_150 (by decide) ?_
                refine m_stc X hM hS 17 40 (fun _ => rfl) rfl (by omega) (by decide) (by decide) (v := true) rfl dX2_endBeat_154 (fun H locs hM hS => ?_)
                exact m_vret X hr hM hS rfl (by simp [m_endBeat, m_endAge, mb_sc, mb_sb, mb_cB, mc_sc, mc_sb, mc_cB, mn_cB, mz_sb, mz_sc, mz_cB, c_36, c_52, c_73, c_124, Int32.not_lt.mp c_104, Int32.not_lt.mp c_146]) (Nat.le_refl _) (Nat.le_refl _) dX2_endBeat_155
      · skip
        exact absurd (c_52.symm.trans c_73) (by decide)
    · skip
      refine lv_iconst (v := 1) hx hb dX2_endBeat_55 (by decide) ?_
      refine lv_goto (tgt := 60) hx hb dX2_endBeat_56 (by decide) ?_
      refine lv_iadd hx hb dX2_endBeat_60 ?_
      refine g_topN (n_add (a := mb σ 22 t) (b := 1) rfl rfl) ?_
      refine m_stb X hM hS 22 40 (fun _ => rfl) rfl (by omega) (by decide) (by decide) (v := (mb σ 22 t) + 1) rfl dX2_endBeat_61 (fun H locs hM hS => ?_)
      refine lv_aload_n hx hb dX2_endBeat_62 rfl (lv_at hl 0 rfl) ?_
      refine mf23 X hM dX2_endBeat_63 ?_
      refine lv_iload_n hx hb dX2_endBeat_66 rfl (lv_at hl 1 rfl) ?_
      refine lv_aload_n hx hb dX2_endBeat_67 rfl (lv_at hl 0 rfl) ?_
      refine mf19 X hM dX2_endBeat_68 ?_
      refine lv_iload_n hx hb dX2_endBeat_71 rfl (lv_at hl 1 rfl) ?_
      refine m_ldc X hM 19 40 rfl rfl (by omega) (by decide) dX2_endBeat_72 ?_
      refine g_topE (z := gb (mc σ 19 t)) (by simp [mc_sb, mc_cB]) ?_
      refine g_ifb_eq hx hb 80 dX2_endBeat_73 (by decide) (fun c_73 => ?_) (fun c_73 => ?_)
      · skip
        exact absurd (c_52.symm.trans c_73) (by decide)
      · skip
        refine lv_iconst (v := 0) hx hb dX2_endBeat_76 (by decide) ?_
        refine lv_goto (tgt := 88) hx hb dX2_endBeat_77 (by decide) ?_
        refine m_stb X hM hS 23 40 (fun _ => rfl) rfl (by omega) (by decide) (by decide) (v := 0) rfl dX2_endBeat_88 (fun H locs hM hS => ?_)
        refine lv_aload_n hx hb dX2_endBeat_89 rfl (lv_at hl 0 rfl) ?_
        refine mf16 X hM dX2_endBeat_90 ?_
        refine lv_iload_n hx hb dX2_endBeat_93 rfl (lv_at hl 1 rfl) ?_
        refine lv_aload_n hx hb dX2_endBeat_94 rfl (lv_at hl 0 rfl) ?_
        refine mf23 X hM dX2_endBeat_95 ?_
        refine lv_iload_n hx hb dX2_endBeat_98 rfl (lv_at hl 1 rfl) ?_
        refine m_ldb X hM 23 40 rfl rfl (by omega) (by decide) dX2_endBeat_99 ?_
        refine g_topE (z := nI (0)) (by simp [mb_sb]) ?_
        refine lv_aload_n hx hb dX2_endBeat_100 rfl (lv_at hl 0 rfl) ?_
        refine mf2 X hM dX2_endBeat_101 ?_
        refine g_topE (z := mz σ 2) (by simp [mz_sb, mz_cB]) ?_
        refine lv_icmp_gt (tgt := 111) hx hb dX2_endBeat_104 (by decide) (fun c_104 => ?_) (fun c_104 => ?_)
        · skip
          refine lv_iconst (v := 0) hx hb dX2_endBeat_111 (by decide) ?_
          refine m_stc X hM hS 16 40 (fun _ => rfl) rfl (by omega) (by decide) (by decide) (v := false) rfl dX2_endBeat_112 (fun H locs hM hS => ?_)
          refine lv_aload_n hx hb dX2_endBeat_113 rfl (lv_at hl 0 rfl) ?_
          refine mf17 X hM dX2_endBeat_114 ?_
          refine lv_iload_n hx hb dX2_endBeat_117 rfl (lv_at hl 1 rfl) ?_
          refine lv_aload_n hx hb dX2_endBeat_118 rfl (lv_at hl 0 rfl) ?_
          refine mf17 X hM dX2_endBeat_119 ?_
          refine lv_iload_n hx hb dX2_endBeat_122 rfl (lv_at hl 1 rfl) ?_
          refine m_ldc X hM 17 40 rfl rfl (by omega) (by decide) dX2_endBeat_123 ?_
          refine g_topE (z := gb (mc σ 17 t)) (by simp [mc_sc, mc_sb, mc_cB]) ?_
          refine g_ifb_ne hx hb 149 dX2_endBeat_124 (by decide) (fun c_124 => ?_) (fun c_124 => ?_)
          · skip
            refine lv_iconst (v := 1) hx hb dX2_endBeat_149 (by decide) ?_
            refine lv_goto (tgt := 154) hx hb dX2_endBeat_150 (by decide) ?_
            refine m_stc X hM hS 17 40 (fun _ => rfl) rfl (by omega) (by decide) (by decide) (v := true) rfl dX2_endBeat_154 (fun H locs hM hS => ?_)
            exact m_vret X hr hM hS rfl (by simp [m_endBeat, m_endAge, mb_sc, mb_sb, mb_cB, mc_sc, mc_sb, mc_cB, mn_cB, mz_sb, mz_sc, mz_cB, c_36, c_52, c_73, c_124, Int32.not_le.mpr c_104]) (Nat.le_refl _) (Nat.le_refl _) dX2_endBeat_155
          · skip
            refine lv_aload_n hx hb dX2_endBeat_127 rfl (lv_at hl 0 rfl) ?_
            refine mf16 X hM dX2_endBeat_128 ?_
            refine lv_iload_n hx hb dX2_endBeat_131 rfl (lv_at hl 1 rfl) ?_
            refine m_ldc X hM 16 40 rfl rfl (by omega) (by decide) dX2_endBeat_132 ?_
            refine g_topE (z := gb false) (by simp [mc_sc]) ?_
            refine g_ifb_eq hx hb 153 dX2_endBeat_133 (by decide) (fun c_133 => ?_) (fun c_133 => ?_)
            · skip
              refine lv_iconst (v := 0) hx hb dX2_endBeat_153 (by decide) ?_
              refine m_stc X hM hS 17 40 (fun _ => rfl) rfl (by omega) (by decide) (by decide) (v := false) rfl dX2_endBeat_154 (fun H locs hM hS => ?_)
              exact m_vret X hr hM hS rfl (by simp [m_endBeat, m_endAge, mb_sc, mb_sb, mb_cB, mc_sc, mc_sb, mc_cB, mn_cB, mz_sb, mz_sc, mz_cB, c_36, c_52, c_73, c_124, Int32.not_le.mpr c_104]) (Nat.le_refl _) (Nat.le_refl _) dX2_endBeat_155
            · skip
              exact absurd c_133 (by decide)
        · skip
          refine lv_iconst (v := 1) hx hb dX2_endBeat_107 (by decide) ?_
          refine lv_goto (tgt := 112) hx hb dX2_endBeat_108 (by decide) ?_
          refine m_stc X hM hS 16 40 (fun _ => rfl) rfl (by omega) (by decide) (by decide) (v := true) rfl dX2_endBeat_112 (fun H locs hM hS => ?_)
          refine lv_aload_n hx hb dX2_endBeat_113 rfl (lv_at hl 0 rfl) ?_
          refine mf17 X hM dX2_endBeat_114 ?_
          refine lv_iload_n hx hb dX2_endBeat_117 rfl (lv_at hl 1 rfl) ?_
          refine lv_aload_n hx hb dX2_endBeat_118 rfl (lv_at hl 0 rfl) ?_
          refine mf17 X hM dX2_endBeat_119 ?_
          refine lv_iload_n hx hb dX2_endBeat_122 rfl (lv_at hl 1 rfl) ?_
          refine m_ldc X hM 17 40 rfl rfl (by omega) (by decide) dX2_endBeat_123 ?_
          refine g_topE (z := gb (mc σ 17 t)) (by simp [mc_sc, mc_sb, mc_cB]) ?_
          refine g_ifb_ne hx hb 149 dX2_endBeat_124 (by decide) (fun c_124 => ?_) (fun c_124 => ?_)
          · skip
            refine lv_iconst (v := 1) hx hb dX2_endBeat_149 (by decide) ?_
            refine lv_goto (tgt := 154) hx hb dX2_endBeat_150 (by decide) ?_
            refine m_stc X hM hS 17 40 (fun _ => rfl) rfl (by omega) (by decide) (by decide) (v := true) rfl dX2_endBeat_154 (fun H locs hM hS => ?_)
            exact m_vret X hr hM hS rfl (by simp [m_endBeat, m_endAge, mb_sc, mb_sb, mb_cB, mc_sc, mc_sb, mc_cB, mn_cB, mz_sb, mz_sc, mz_cB, c_36, c_52, c_73, c_124, Int32.not_lt.mp c_104]) (Nat.le_refl _) (Nat.le_refl _) dX2_endBeat_155
          · skip
            refine lv_aload_n hx hb dX2_endBeat_127 rfl (lv_at hl 0 rfl) ?_
            refine mf16 X hM dX2_endBeat_128 ?_
            refine lv_iload_n hx hb dX2_endBeat_131 rfl (lv_at hl 1 rfl) ?_
            refine m_ldc X hM 16 40 rfl rfl (by omega) (by decide) dX2_endBeat_132 ?_
            refine g_topE (z := gb true) (by simp [mc_sc]) ?_
            refine g_ifb_eq hx hb 153 dX2_endBeat_133 (by decide) (fun c_133 => ?_) (fun c_133 => ?_)
            · skip
              exact absurd c_133 (by decide)
            · skip
              refine lv_aload_n hx hb dX2_endBeat_136 rfl (lv_at hl 0 rfl) ?_
              refine mf22 X hM dX2_endBeat_137 ?_
              refine lv_iload_n hx hb dX2_endBeat_140 rfl (lv_at hl 1 rfl) ?_
              refine m_ldb X hM 22 40 rfl rfl (by omega) (by decide) dX2_endBeat_141 ?_
              refine g_topE (z := nI ((mb σ 22 t) + 1)) (by simp [mb_sc, mb_sb]) ?_
              refine lv_aload_n hx hb dX2_endBeat_142 rfl (lv_at hl 0 rfl) ?_
              refine mf3 X hM dX2_endBeat_143 ?_
              refine g_topE (z := mz σ 3) (by simp [mz_sc, mz_sb, mz_cB]) ?_
              refine lv_icmp_lt (tgt := 153) hx hb dX2_endBeat_146 (by decide) (fun c_146 => ?_) (fun c_146 => ?_)
              · skip
                refine lv_iconst (v := 0) hx hb dX2_endBeat_153 (by decide) ?_
                refine m_stc X hM hS 17 40 (fun _ => rfl) rfl (by omega) (by decide) (by decide) (v := false) rfl dX2_endBeat_154 (fun H locs hM hS => ?_)
                exact m_vret X hr hM hS rfl (by simp [m_endBeat, m_endAge, mb_sc, mb_sb, mb_cB, mc_sc, mc_sb, mc_cB, mn_cB, mz_sb, mz_sc, mz_cB, c_36, c_52, c_73, c_124, Int32.not_lt.mp c_104, Int32.not_le.mpr c_146]) (Nat.le_refl _) (Nat.le_refl _) dX2_endBeat_155
              · skip
                refine lv_iconst (v := 1) hx hb dX2_endBeat_149 (by decide) ?_
                refine lv_goto (tgt := 154) hx hb dX2_endBeat_150 (by decide) ?_
                refine m_stc X hM hS 17 40 (fun _ => rfl) rfl (by omega) (by decide) (by decide) (v := true) rfl dX2_endBeat_154 (fun H locs hM hS => ?_)
                exact m_vret X hr hM hS rfl (by simp [m_endBeat, m_endAge, mb_sc, mb_sb, mb_cB, mc_sc, mc_sb, mc_cB, mn_cB, mz_sb, mz_sc, mz_cB, c_36, c_52, c_73, c_124, Int32.not_lt.mp c_104, Int32.not_lt.mp c_146]) (Nat.le_refl _) (Nat.le_refl _) dX2_endBeat_155
set_option maxHeartbeats 4000000 in
set_option maxRecDepth 100000 in
/-- tryFrom -/
theorem met_X2_tryFrom (l : Launch) (K : gK) (mo : Nat) (A : mA) (r : Nat) : ∀ (f o k : Nat) (used : Int32) (pairs : Nat) (cost : Int64) (σ : mS), r + 2 ≤ f → 42 * r + 150 ≤ o → tV σ → k + r = mn σ 36 → pairs ≤ k → mMet l K mo A yX2_tryFrom cX2_tryFrom 7 none f o [.int (nI (k)), .int (used), .int (nI (pairs)), .long (cost)] σ none (m_try r k used pairs cost σ) := by
  induction r with
  | zero =>
    intro f o k used pairs cost σ hf ho hV hk hp G hR0
    have hV0 := hV
    obtain ⟨hV1, hV2, hV3, hV4, hV5⟩ := hV0
    refine gMet.of (by decide) (Nat.le_of_ble_eq_true rfl) (fun p e s m below meth c ls hx hb X hr hin hG hS hl => ?_)
    have X : gC K p s m _ meth c cX2_tryFrom 7 "KalmanQuayModel" := X
    have hM := mPre hR0 hG
    have hl : lv_has ls 7 [(0, .ref (mo)), (1, .int (nI (k))), (2, .int (used)), (3, .int (nI (pairs))), (4, .long (cost))] := hl
    refine lv_iload_n hx hb dX2_tryFrom_0 rfl (lv_at hl 1 rfl) ?_
    refine lv_aload_n hx hb dX2_tryFrom_1 rfl (lv_at hl 0 rfl) ?_
    refine mf36 X hM dX2_tryFrom_2 ?_
    refine g_icmp_ne hx hb 78 dX2_tryFrom_5 (by decide) (a := k) (b := mn σ 36) rfl rfl (by omega) (by omega) (fun c_5 => ?_) (fun c_5 => ?_)
    · skip
      exact absurd c_5 (by omega)
    · skip
      refine lv_iload_n hx hb dX2_tryFrom_8 rfl (lv_at hl 3 rfl) ?_
      refine lv_aload_n hx hb dX2_tryFrom_9 rfl (lv_at hl 0 rfl) ?_
      refine mf39 X hM dX2_tryFrom_10 ?_
      refine lv_icmp_gt (tgt := 34) hx hb dX2_tryFrom_13 (by decide) (fun c_13 => ?_) (fun c_13 => ?_)
      · skip
        refine lv_aload_n hx hb dX2_tryFrom_34 rfl (lv_at hl 0 rfl) ?_
        refine lv_iload_n hx hb dX2_tryFrom_35 rfl (lv_at hl 3 rfl) ?_
        refine mp39 X hM hS (v := nI (pairs)) dX2_tryFrom_36 (fun H locs hM hS => ?_)
        refine lv_aload_n hx hb dX2_tryFrom_39 rfl (lv_at hl 0 rfl) ?_
        refine lv_lload hx hb dX2_tryFrom_40 (lv_at hl 4 rfl) ?_
        refine mp40 X hM hS (v := cost) dX2_tryFrom_42 (fun H locs hM hS => ?_)
        refine lv_iconst (v := 0) hx hb dX2_tryFrom_45 (by decide) ?_
        refine lv_istore (lv' := [(6, .int (0)), (0, .ref (mo)), (1, .int (nI (k))), (2, .int (used)), (3, .int (nI (pairs))), (4, .long (cost))]) hx hb dX2_tryFrom_46 hl (by decide) rfl (fun ls hl => ?_)
        have loop_48 : ∀ (n i : Nat) (H : Heap) (locs : List Loc) (ls : Array Slot), i + n = mn σ 36 → mH K mo A (m_leafL (sl (sz σ 39 (nI (pairs))) 40 (cost)) i) G H → va_S (gA K) s.heap H locs → lv_has ls 7 [(6, .int (nI (i))), (0, .ref (mo)), (1, .int (nI (k))), (2, .int (used)), (3, .int (nI (pairs))), (4, .long (cost))] → W p l e ({ frames := f, cells := 0, slots := 0, locals := o } : Room) s m ([.ref (mo), .int (nI (k)), .int (used), .int (nI (pairs)), .long (cost)] : List Value).toArray below meth c H locs 0 0 (MQ below (gQ K (fun w G1 => w = (none) ∧ mR K mo A (m_try 0 k used pairs cost σ) G1 ∧ gF mT G G1)) ([.ref (mo), .int (nI (k)), .int (used), .int (nI (pairs)), .long (cost)] : List Value).toArray s 0 0 (gA K)) (F0 m 48 ls []) := by
          intro n
          induction n with
          | zero =>
            intro i H locs ls hi_48 hM hS hl
            refine lv_iload hx hb dX2_tryFrom_48 (lv_at hl 0 rfl) ?_
            refine lv_aload_n hx hb dX2_tryFrom_50 rfl (lv_at hl 1 rfl) ?_
            refine mf36 X hM dX2_tryFrom_51 ?_
            refine g_topE (z := nI (mn σ 36)) (by simp [mn_m_leafL, mn_sl, mn_sz]) ?_
            refine g_icmp_ge hx hb 77 dX2_tryFrom_54 (by decide) (a := i) (b := mn σ 36) rfl rfl (by omega) (by omega) (fun c_54 => ?_) (fun c_54 => ?_)
            · skip
              exact m_vret X hr hM hS rfl (by rw [show i = mn σ 36 by omega]; simp only [m_try, m_leaf, m_leafL]; rw [if_pos (Or.inl c_13)]) (Nat.le_refl _) (Nat.le_refl _) dX2_tryFrom_77
            · skip
              exact absurd c_54 (by omega)
          | succ n ih_48 =>
            intro i H locs ls hi_48 hM hS hl
            refine lv_iload hx hb dX2_tryFrom_48 (lv_at hl 0 rfl) ?_
            refine lv_aload_n hx hb dX2_tryFrom_50 rfl (lv_at hl 1 rfl) ?_
            refine mf36 X hM dX2_tryFrom_51 ?_
            refine g_topE (z := nI (mn σ 36)) (by simp [mn_m_leafL, mn_sl, mn_sz]) ?_
            refine g_icmp_ge hx hb 77 dX2_tryFrom_54 (by decide) (a := i) (b := mn σ 36) rfl rfl (by omega) (by omega) (fun c_54 => ?_) (fun c_54 => ?_)
            · skip
              exact absurd c_54 (by omega)
            · skip
              refine lv_aload_n hx hb dX2_tryFrom_57 rfl (lv_at hl 1 rfl) ?_
              refine mf38 X hM dX2_tryFrom_58 ?_
              refine lv_iload hx hb dX2_tryFrom_61 (lv_at hl 0 rfl) ?_
              refine lv_aload_n hx hb dX2_tryFrom_63 rfl (lv_at hl 1 rfl) ?_
              refine mf37 X hM dX2_tryFrom_64 ?_
              refine lv_iload hx hb dX2_tryFrom_67 (lv_at hl 0 rfl) ?_
              refine m_lda X hM 37 6 rfl rfl (by omega) (by decide) dX2_tryFrom_69 ?_
              refine g_topE (z := ma σ 37 i) (by simp [ma_m_leafL, ma_sl, ma_sz]) ?_
              refine m_sta X hM hS 38 6 (fun _ => rfl) rfl (by omega) (by decide) (by decide) dX2_tryFrom_70 (fun H locs hM hS => ?_)
              refine lv_iinc (v := nI (i + 1)) (lv' := [(6, .int (nI (i + 1))), (0, .ref (mo)), (1, .int (nI (k))), (2, .int (used)), (3, .int (nI (pairs))), (4, .long (cost))]) hx hb dX2_tryFrom_71 hl (k := 0) rfl (n_add (a := i) (b := 1) rfl rfl) (by decide) rfl (fun ls hl => ?_)
              refine lv_goto (tgt := 48) hx hb dX2_tryFrom_74 (by decide) ?_
              have e_1 : m_leafL (sl (sz σ 39 (nI pairs)) 40 (cost)) (i + 1) = sa (m_leafL (sl (sz σ 39 (nI (pairs))) 40 (cost)) i) 38 i (ma σ 37 i) := by simp [m_leafL_succ, ma_m_leafL, ma_sl, ma_sz]
              rw [← e_1] at hM
              exact ih_48 (i + 1) H locs ls (by omega) hM hS (lv_sub hl [0, 1, 2, 3, 4, 5] rfl)
        exact loop_48 (mn σ 36) 0 _ _ ls (by omega) hM hS (lv_sub hl [0, 1, 2, 3, 4, 5] rfl)
      · skip
        refine lv_iload_n hx hb dX2_tryFrom_16 rfl (lv_at hl 3 rfl) ?_
        refine lv_aload_n hx hb dX2_tryFrom_17 rfl (lv_at hl 0 rfl) ?_
        refine mf39 X hM dX2_tryFrom_18 ?_
        refine lv_icmp_ne (tgt := 77) hx hb dX2_tryFrom_21 (by decide) (fun c_21 => ?_) (fun c_21 => ?_)
        · skip
          exact m_vret X hr hM hS rfl (by simp only [m_try, m_leaf]; rw [if_neg (fun q => q.elim c_13 (fun q => c_21 q.1))]) (Nat.le_refl _) (Nat.le_refl _) dX2_tryFrom_77
        · skip
          refine lv_lload hx hb dX2_tryFrom_24 (lv_at hl 4 rfl) ?_
          refine lv_aload_n hx hb dX2_tryFrom_26 rfl (lv_at hl 0 rfl) ?_
          refine mf40 X hM dX2_tryFrom_27 ?_
          refine g_lif_ge hx hb 77 dX2_tryFrom_30 dX2_tryFrom_31 (by decide) (fun c_30 => ?_) (fun c_30 => ?_)
          · skip
            exact m_vret X hr hM hS rfl (by simp only [m_try, m_leaf]; rw [if_neg (fun q => q.elim c_13 (fun q => absurd q.2 (Int64.not_lt.mpr c_30)))]) (Nat.le_refl _) (Nat.le_refl _) dX2_tryFrom_77
          · skip
            refine lv_aload_n hx hb dX2_tryFrom_34 rfl (lv_at hl 0 rfl) ?_
            refine lv_iload_n hx hb dX2_tryFrom_35 rfl (lv_at hl 3 rfl) ?_
            refine mp39 X hM hS (v := nI (pairs)) dX2_tryFrom_36 (fun H locs hM hS => ?_)
            refine lv_aload_n hx hb dX2_tryFrom_39 rfl (lv_at hl 0 rfl) ?_
            refine lv_lload hx hb dX2_tryFrom_40 (lv_at hl 4 rfl) ?_
            refine mp40 X hM hS (v := cost) dX2_tryFrom_42 (fun H locs hM hS => ?_)
            refine lv_iconst (v := 0) hx hb dX2_tryFrom_45 (by decide) ?_
            refine lv_istore (lv' := [(6, .int (0)), (0, .ref (mo)), (1, .int (nI (k))), (2, .int (used)), (3, .int (nI (pairs))), (4, .long (cost))]) hx hb dX2_tryFrom_46 hl (by decide) rfl (fun ls hl => ?_)
            have loop_48 : ∀ (n i : Nat) (H : Heap) (locs : List Loc) (ls : Array Slot), i + n = mn σ 36 → mH K mo A (m_leafL (sl (sz σ 39 (nI (pairs))) 40 (cost)) i) G H → va_S (gA K) s.heap H locs → lv_has ls 7 [(6, .int (nI (i))), (0, .ref (mo)), (1, .int (nI (k))), (2, .int (used)), (3, .int (nI (pairs))), (4, .long (cost))] → W p l e ({ frames := f, cells := 0, slots := 0, locals := o } : Room) s m ([.ref (mo), .int (nI (k)), .int (used), .int (nI (pairs)), .long (cost)] : List Value).toArray below meth c H locs 0 0 (MQ below (gQ K (fun w G1 => w = (none) ∧ mR K mo A (m_try 0 k used pairs cost σ) G1 ∧ gF mT G G1)) ([.ref (mo), .int (nI (k)), .int (used), .int (nI (pairs)), .long (cost)] : List Value).toArray s 0 0 (gA K)) (F0 m 48 ls []) := by
              intro n
              induction n with
              | zero =>
                intro i H locs ls hi_48 hM hS hl
                refine lv_iload hx hb dX2_tryFrom_48 (lv_at hl 0 rfl) ?_
                refine lv_aload_n hx hb dX2_tryFrom_50 rfl (lv_at hl 1 rfl) ?_
                refine mf36 X hM dX2_tryFrom_51 ?_
                refine g_topE (z := nI (mn σ 36)) (by simp [mn_m_leafL, mn_sl, mn_sz]) ?_
                refine g_icmp_ge hx hb 77 dX2_tryFrom_54 (by decide) (a := i) (b := mn σ 36) rfl rfl (by omega) (by omega) (fun c_54 => ?_) (fun c_54 => ?_)
                · skip
                  exact m_vret X hr hM hS rfl (by rw [show i = mn σ 36 by omega]; simp only [m_try, m_leaf, m_leafL]; rw [if_pos (Or.inr ⟨c_21, Int64.not_le.mp c_30⟩)]) (Nat.le_refl _) (Nat.le_refl _) dX2_tryFrom_77
                · skip
                  exact absurd c_54 (by omega)
              | succ n ih_48 =>
                intro i H locs ls hi_48 hM hS hl
                refine lv_iload hx hb dX2_tryFrom_48 (lv_at hl 0 rfl) ?_
                refine lv_aload_n hx hb dX2_tryFrom_50 rfl (lv_at hl 1 rfl) ?_
                refine mf36 X hM dX2_tryFrom_51 ?_
                refine g_topE (z := nI (mn σ 36)) (by simp [mn_m_leafL, mn_sl, mn_sz]) ?_
                refine g_icmp_ge hx hb 77 dX2_tryFrom_54 (by decide) (a := i) (b := mn σ 36) rfl rfl (by omega) (by omega) (fun c_54 => ?_) (fun c_54 => ?_)
                · skip
                  exact absurd c_54 (by omega)
                · skip
                  refine lv_aload_n hx hb dX2_tryFrom_57 rfl (lv_at hl 1 rfl) ?_
                  refine mf38 X hM dX2_tryFrom_58 ?_
                  refine lv_iload hx hb dX2_tryFrom_61 (lv_at hl 0 rfl) ?_
                  refine lv_aload_n hx hb dX2_tryFrom_63 rfl (lv_at hl 1 rfl) ?_
                  refine mf37 X hM dX2_tryFrom_64 ?_
                  refine lv_iload hx hb dX2_tryFrom_67 (lv_at hl 0 rfl) ?_
                  refine m_lda X hM 37 6 rfl rfl (by omega) (by decide) dX2_tryFrom_69 ?_
                  refine g_topE (z := ma σ 37 i) (by simp [ma_m_leafL, ma_sl, ma_sz]) ?_
                  refine m_sta X hM hS 38 6 (fun _ => rfl) rfl (by omega) (by decide) (by decide) dX2_tryFrom_70 (fun H locs hM hS => ?_)
                  refine lv_iinc (v := nI (i + 1)) (lv' := [(6, .int (nI (i + 1))), (0, .ref (mo)), (1, .int (nI (k))), (2, .int (used)), (3, .int (nI (pairs))), (4, .long (cost))]) hx hb dX2_tryFrom_71 hl (k := 0) rfl (n_add (a := i) (b := 1) rfl rfl) (by decide) rfl (fun ls hl => ?_)
                  refine lv_goto (tgt := 48) hx hb dX2_tryFrom_74 (by decide) ?_
                  have e_1 : m_leafL (sl (sz σ 39 (nI pairs)) 40 (cost)) (i + 1) = sa (m_leafL (sl (sz σ 39 (nI (pairs))) 40 (cost)) i) 38 i (ma σ 37 i) := by simp [m_leafL_succ, ma_m_leafL, ma_sl, ma_sz]
                  rw [← e_1] at hM
                  exact ih_48 (i + 1) H locs ls (by omega) hM hS (lv_sub hl [0, 1, 2, 3, 4, 5] rfl)
            exact loop_48 (mn σ 36) 0 _ _ ls (by omega) hM hS (lv_sub hl [0, 1, 2, 3, 4, 5] rfl)
  | succ r ihr =>
    intro f o k used pairs cost σ hf ho hV hk hp G hR0
    have hV0 := hV
    obtain ⟨hV1, hV2, hV3, hV4, hV5⟩ := hV0
    refine gMet.of (by decide) (Nat.le_of_ble_eq_true rfl) (fun p e s m below meth c ls hx hb X hr hin hG hS hl => ?_)
    have X : gC K p s m _ meth c cX2_tryFrom 7 "KalmanQuayModel" := X
    have hM := mPre hR0 hG
    have hl : lv_has ls 7 [(0, .ref (mo)), (1, .int (nI (k))), (2, .int (used)), (3, .int (nI (pairs))), (4, .long (cost))] := hl
    refine lv_iload_n hx hb dX2_tryFrom_0 rfl (lv_at hl 1 rfl) ?_
    refine lv_aload_n hx hb dX2_tryFrom_1 rfl (lv_at hl 0 rfl) ?_
    refine mf36 X hM dX2_tryFrom_2 ?_
    refine g_icmp_ne hx hb 78 dX2_tryFrom_5 (by decide) (a := k) (b := mn σ 36) rfl rfl (by omega) (by omega) (fun c_5 => ?_) (fun c_5 => ?_)
    · skip
      refine lv_iconst (v := 0) hx hb dX2_tryFrom_78 (by decide) ?_
      refine lv_istore (lv' := [(6, .int (0)), (0, .ref (mo)), (1, .int (nI (k))), (2, .int (used)), (3, .int (nI (pairs))), (4, .long (cost))]) hx hb dX2_tryFrom_79 hl (by decide) rfl (fun ls hl => ?_)
      have loop_81 : ∀ (n i : Nat) (H : Heap) (locs : List Loc) (ls : Array Slot), i + n = mn σ 34 → mH K mo A (m_tryL r k used pairs cost i σ) G H → va_S (gA K) s.heap H locs → lv_has ls 7 [(6, .int (nI (i))), (0, .ref (mo)), (1, .int (nI (k))), (2, .int (used)), (3, .int (nI (pairs))), (4, .long (cost))] → W p l e ({ frames := f, cells := 0, slots := 0, locals := o } : Room) s m ([.ref (mo), .int (nI (k)), .int (used), .int (nI (pairs)), .long (cost)] : List Value).toArray below meth c H locs 0 0 (MQ below (gQ K (fun w G1 => w = (none) ∧ mR K mo A (m_try (r + 1) k used pairs cost σ) G1 ∧ gF mT G G1)) ([.ref (mo), .int (nI (k)), .int (used), .int (nI (pairs)), .long (cost)] : List Value).toArray s 0 0 (gA K)) (F0 m 81 ls []) := by
        intro n
        induction n with
        | zero =>
          intro i H locs ls hi_81 hM hS hl
          have hi2 : i = mn σ 34 := by omega
          subst hi2
          refine lv_iload hx hb dX2_tryFrom_81 (lv_at hl 0 rfl) ?_
          refine lv_aload_n hx hb dX2_tryFrom_83 rfl (lv_at hl 1 rfl) ?_
          refine mf34 X hM dX2_tryFrom_84 ?_
          refine g_topE (z := nI (mn σ 34)) (by simp [mn_m_tryL]) ?_
          refine g_icmp_ge hx hb 174 dX2_tryFrom_87 (by decide) (a := mn σ 34) (b := mn σ 34) rfl rfl (by omega) (by omega) (fun c_87 => ?_) (fun c_87 => ?_)
          · skip
            refine lv_aload_n hx hb dX2_tryFrom_174 rfl (lv_at hl 1 rfl) ?_
            refine mf37 X hM dX2_tryFrom_175 ?_
            refine lv_iload_n hx hb dX2_tryFrom_178 rfl (lv_at hl 2 rfl) ?_
            refine lv_iconst (v := (-1)) hx hb dX2_tryFrom_179 (by decide) ?_
            refine m_sta X hM hS 37 6 (fun _ => rfl) rfl (by omega) (by decide) (by decide) dX2_tryFrom_180 (fun H locs hM hS => ?_)
            refine lv_aload_n hx hb dX2_tryFrom_181 rfl (lv_at hl 1 rfl) ?_
            refine lv_iload_n hx hb dX2_tryFrom_182 rfl (lv_at hl 2 rfl) ?_
            refine lv_iconst (v := 1) hx hb dX2_tryFrom_183 (by decide) ?_
            refine lv_iadd hx hb dX2_tryFrom_184 ?_
            refine g_topN (n_add (a := k) (b := 1) rfl rfl) ?_
            refine lv_iload_n hx hb dX2_tryFrom_185 rfl (lv_at hl 3 rfl) ?_
            refine lv_iload_n hx hb dX2_tryFrom_186 rfl (lv_at hl 4 rfl) ?_
            refine lv_lload hx hb dX2_tryFrom_187 (lv_at hl 5 rfl) ?_
            refine m_call X (ihr (f - 1) (o - 42) (k + 1) used pairs cost (sa (m_tryL r k used pairs cost (mn σ 34) σ) 37 k ((-1))) (by omega) (by omega) (tV_sa (tV_L hV _ _ _ _ _ _) _ _) (by simp only [mn_sa, mn_m_tryL]; omega) (by omega)) gp_X2_tryFrom rfl q1499 q1501 qs20 q42 q1502 hM hS hl ⟨by dsimp only; omega, by dsimp only; omega⟩ ⟨Nat.le_refl _, Nat.le_refl _⟩ (rest := []) (Nat.le_of_ble_eq_true rfl) rfl dX2_tryFrom_189 (fun H locs hM hS => ?_)
            refine W.eq (g2 := F0 m 192 ls []) rfl ?_
            exact m_vret X hr hM hS rfl (m_try_succ _ _ _ _ _ _).symm (Nat.le_refl _) (Nat.le_refl _) dX2_tryFrom_192
          · skip
            exact absurd c_87 (by omega)
        | succ n ih_81 =>
          intro i H locs ls hi_81 hM hS hl
          refine lv_iload hx hb dX2_tryFrom_81 (lv_at hl 0 rfl) ?_
          refine lv_aload_n hx hb dX2_tryFrom_83 rfl (lv_at hl 1 rfl) ?_
          refine mf34 X hM dX2_tryFrom_84 ?_
          refine g_topE (z := nI (mn σ 34)) (by simp [mn_m_tryL]) ?_
          refine g_icmp_ge hx hb 174 dX2_tryFrom_87 (by decide) (a := i) (b := mn σ 34) rfl rfl (by omega) (by omega) (fun c_87 => ?_) (fun c_87 => ?_)
          · skip
            exact absurd c_87 (by omega)
          · skip
            refine lv_iload_n hx hb dX2_tryFrom_90 rfl (lv_at hl 3 rfl) ?_
            refine lv_iload hx hb dX2_tryFrom_91 (lv_at hl 0 rfl) ?_
            refine lv_ishr hx hb dX2_tryFrom_93 ?_
            refine lv_iconst (v := 1) hx hb dX2_tryFrom_94 (by decide) ?_
            refine lv_iand hx hb dX2_tryFrom_95 ?_
            refine lv_if_ne (tgt := 168) hx hb dX2_tryFrom_96 (by decide) (fun c_96 => ?_) (fun c_96 => ?_)
            · skip
              refine lv_iinc (v := nI (i + 1)) (lv' := [(6, .int (nI (i + 1))), (0, .ref (mo)), (1, .int (nI (k))), (2, .int (used)), (3, .int (nI (pairs))), (4, .long (cost))]) hx hb dX2_tryFrom_168 hl (k := 0) rfl (n_add (a := i) (b := 1) rfl rfl) (by decide) rfl (fun ls hl => ?_)
              refine lv_goto (tgt := 81) hx hb dX2_tryFrom_171 (by decide) ?_
              have e_1 : m_tryL r k used pairs cost (i + 1) σ = m_tryL r k used pairs cost i σ := by rw [m_tryL_succ, m_tryB]; simp [mb_m_tryL, m_freeB, c_96]
              rw [← e_1] at hM
              exact ih_81 (i + 1) H locs ls (by omega) hM hS (lv_sub hl [0, 1, 2, 3, 4, 5] rfl)
            · skip
              refine lv_aload_n hx hb dX2_tryFrom_99 rfl (lv_at hl 1 rfl) ?_
              refine lv_aload_n hx hb dX2_tryFrom_100 rfl (lv_at hl 1 rfl) ?_
              refine mf35 X hM dX2_tryFrom_101 ?_
              refine lv_iload_n hx hb dX2_tryFrom_104 rfl (lv_at hl 2 rfl) ?_
              refine m_ldb X hM 35 6 rfl rfl (by omega) (by decide) dX2_tryFrom_105 ?_
              refine g_topE (z := nI (mb σ 35 k)) (by simp [mb_m_tryL]) ?_
              refine lv_aload_n hx hb dX2_tryFrom_106 rfl (lv_at hl 1 rfl) ?_
              refine mf33 X hM dX2_tryFrom_107 ?_
              refine lv_iload hx hb dX2_tryFrom_110 (lv_at hl 0 rfl) ?_
              refine m_ldb X hM 33 8 rfl rfl (by omega) (by decide) dX2_tryFrom_112 ?_
              refine g_topE (z := nI (mb σ 33 i)) (by simp [mb_m_tryL]) ?_
              refine m_call X (met_X2_isInGate l K mo A (m_tryL r k used pairs cost i σ) (mb σ 35 k) (mb σ 33 i) (hV4 k (by omega)) (hV3 i (by omega)).1 (by simpa [mb_m_tryL] using (hV3 i (by omega)).2)) gp_X2_isInGate rfl q1503 q1505 qs21 q42 q1506 hM hS hl ⟨by dsimp only; omega, by dsimp only; omega⟩ ⟨Nat.le_refl _, Nat.le_refl _⟩ (rest := []) (Nat.le_of_ble_eq_true rfl) rfl dX2_tryFrom_113 (fun H locs hM hS => ?_)
              refine W.eq (g2 := F0 m 116 ls [.int (gb (m_isInGate (m_tryL r k used pairs cost i σ) (mb σ 35 k) (mb σ 33 i)))]) rfl ?_
              refine g_ifb_eq hx hb 168 dX2_tryFrom_116 (by decide) (fun c_116 => ?_) (fun c_116 => ?_)
              · skip
                refine lv_iinc (v := nI (i + 1)) (lv' := [(6, .int (nI (i + 1))), (0, .ref (mo)), (1, .int (nI (k))), (2, .int (used)), (3, .int (nI (pairs))), (4, .long (cost))]) hx hb dX2_tryFrom_168 hl (k := 0) rfl (n_add (a := i) (b := 1) rfl rfl) (by decide) rfl (fun ls hl => ?_)
                refine lv_goto (tgt := 81) hx hb dX2_tryFrom_171 (by decide) ?_
                have e_1 : m_tryL r k used pairs cost (i + 1) σ = m_tryL r k used pairs cost i σ := by rw [m_tryL_succ, m_tryB]; simp [mb_m_tryL, m_freeB, c_96, c_116]
                rw [← e_1] at hM
                exact ih_81 (i + 1) H locs ls (by omega) hM hS (lv_sub hl [0, 1, 2, 3, 4, 5] rfl)
              · skip
                refine lv_aload_n hx hb dX2_tryFrom_119 rfl (lv_at hl 1 rfl) ?_
                refine mf37 X hM dX2_tryFrom_120 ?_
                refine lv_iload_n hx hb dX2_tryFrom_123 rfl (lv_at hl 2 rfl) ?_
                refine lv_aload_n hx hb dX2_tryFrom_124 rfl (lv_at hl 1 rfl) ?_
                refine mf33 X hM dX2_tryFrom_125 ?_
                refine lv_iload hx hb dX2_tryFrom_128 (lv_at hl 0 rfl) ?_
                refine m_ldb X hM 33 8 rfl rfl (by omega) (by decide) dX2_tryFrom_130 ?_
                refine g_topE (z := nI (mb σ 33 i)) (by simp [mb_m_tryL]) ?_
                refine m_sta X hM hS 37 6 (fun _ => rfl) rfl (by omega) (by decide) (by decide) dX2_tryFrom_131 (fun H locs hM hS => ?_)
                refine lv_aload_n hx hb dX2_tryFrom_132 rfl (lv_at hl 1 rfl) ?_
                refine lv_iload_n hx hb dX2_tryFrom_133 rfl (lv_at hl 2 rfl) ?_
                refine lv_iconst (v := 1) hx hb dX2_tryFrom_134 (by decide) ?_
                refine lv_iadd hx hb dX2_tryFrom_135 ?_
                refine g_topN (n_add (a := k) (b := 1) rfl rfl) ?_
                refine lv_iload_n hx hb dX2_tryFrom_136 rfl (lv_at hl 3 rfl) ?_
                refine lv_iconst (v := 1) hx hb dX2_tryFrom_137 (by decide) ?_
                refine lv_iload hx hb dX2_tryFrom_138 (lv_at hl 0 rfl) ?_
                refine lv_ishl hx hb dX2_tryFrom_140 ?_
                refine lv_ior hx hb dX2_tryFrom_141 ?_
                refine lv_iload_n hx hb dX2_tryFrom_142 rfl (lv_at hl 4 rfl) ?_
                refine lv_iconst (v := 1) hx hb dX2_tryFrom_143 (by decide) ?_
                refine lv_iadd hx hb dX2_tryFrom_144 ?_
                refine g_topN (n_add (a := pairs) (b := 1) rfl rfl) ?_
                refine lv_lload hx hb dX2_tryFrom_145 (lv_at hl 5 rfl) ?_
                refine lv_aload_n hx hb dX2_tryFrom_147 rfl (lv_at hl 1 rfl) ?_
                refine lv_aload_n hx hb dX2_tryFrom_148 rfl (lv_at hl 1 rfl) ?_
                refine mf35 X hM dX2_tryFrom_149 ?_
                refine lv_iload_n hx hb dX2_tryFrom_152 rfl (lv_at hl 2 rfl) ?_
                refine m_ldb X hM 35 6 rfl rfl (by omega) (by decide) dX2_tryFrom_153 ?_
                refine g_topE (z := nI (mb σ 35 k)) (by simp [mb_sa, mb_m_tryL]) ?_
                refine lv_aload_n hx hb dX2_tryFrom_154 rfl (lv_at hl 1 rfl) ?_
                refine mf33 X hM dX2_tryFrom_155 ?_
                refine lv_iload hx hb dX2_tryFrom_158 (lv_at hl 0 rfl) ?_
                refine m_ldb X hM 33 8 rfl rfl (by omega) (by decide) dX2_tryFrom_160 ?_
                refine g_topE (z := nI (mb σ 33 i)) (by simp [mb_sa, mb_m_tryL]) ?_
                refine m_call X (met_X2_costOf l K mo A (sa (m_tryL r k used pairs cost i σ) 37 k (nI (mb σ 33 i))) (mb σ 35 k) (mb σ 33 i) (hV4 k (by omega)) (hV3 i (by omega)).1 (by simpa [mb_m_tryL, mb_sa] using (hV3 i (by omega)).2) (by simpa [m_spread, mb_m_tryL, mb_sa, mN_m_tryL, mN_sa, ma_m_tryL, ma_sa] using hV5 k (by omega) i (by omega))) gp_X2_costOf rfl q1517 q1519 qs24 q42 q1520 hM hS hl ⟨by dsimp only; omega, by dsimp only; omega⟩ ⟨Nat.le_refl _, Nat.le_refl _⟩ (rest := [.long (cost), .int (nI (pairs + 1)), .int (used ||| (1 <<< ((nI (i)) &&& 31))), .int (nI (k + 1)), .ref (mo)]) (Nat.le_of_ble_eq_true rfl) rfl dX2_tryFrom_161 (fun H locs hM hS => ?_)
                refine W.eq (g2 := F0 m 164 ls [.long (m_costOf (sa (m_tryL r k used pairs cost i σ) 37 k (nI (mb σ 33 i))) (mb σ 35 k) (mb σ 33 i)), .long (cost), .int (nI (pairs + 1)), .int (used ||| (1 <<< ((nI (i)) &&& 31))), .int (nI (k + 1)), .ref (mo)]) rfl ?_
                refine lv_ladd hx hb dX2_tryFrom_164 ?_
                refine m_call X (ihr (f - 1) (o - 42) (k + 1) (used ||| (1 <<< ((nI (i)) &&& 31))) (pairs + 1) (cost + (m_costOf (sa (m_tryL r k used pairs cost i σ) 37 k (nI (mb σ 33 i))) (mb σ 35 k) (mb σ 33 i))) (sa (m_tryL r k used pairs cost i σ) 37 k (nI (mb σ 33 i))) (by omega) (by omega) (tV_sa (tV_L hV _ _ _ _ _ _) _ _) (by simp only [mn_sa, mn_m_tryL]; omega) (by omega)) gp_X2_tryFrom rfl q1499 q1501 qs20 q42 q1502 hM hS hl ⟨by dsimp only; omega, by dsimp only; omega⟩ ⟨Nat.le_refl _, Nat.le_refl _⟩ (rest := []) (Nat.le_of_ble_eq_true rfl) rfl dX2_tryFrom_165 (fun H locs hM hS => ?_)
                refine W.eq (g2 := F0 m 168 ls []) rfl ?_
                refine lv_iinc (v := nI (i + 1)) (lv' := [(6, .int (nI (i + 1))), (0, .ref (mo)), (1, .int (nI (k))), (2, .int (used)), (3, .int (nI (pairs))), (4, .long (cost))]) hx hb dX2_tryFrom_168 hl (k := 0) rfl (n_add (a := i) (b := 1) rfl rfl) (by decide) rfl (fun ls hl => ?_)
                refine lv_goto (tgt := 81) hx hb dX2_tryFrom_171 (by decide) ?_
                have e_1 : m_tryL r k used pairs cost (i + 1) σ = m_try r (k + 1) (used ||| (1 <<< ((nI (i)) &&& 31))) (pairs + 1) (cost + (m_costOf (sa (m_tryL r k used pairs cost i σ) 37 k (nI (mb σ 33 i))) (mb σ 35 k) (mb σ 33 i))) (sa (m_tryL r k used pairs cost i σ) 37 k (nI (mb σ 33 i))) := by rw [m_tryL_succ, m_tryB]; simp [mb_m_tryL, m_freeB, c_96, c_116]
                rw [← e_1] at hM
                exact ih_81 (i + 1) H locs ls (by omega) hM hS (lv_sub hl [0, 1, 2, 3, 4, 5] rfl)
      exact loop_81 (mn σ 34) 0 _ _ ls (by omega) hM hS (lv_sub hl [0, 1, 2, 3, 4, 5] rfl)
    · skip
      exact absurd c_5 (by omega)
