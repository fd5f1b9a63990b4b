/-! the reference: second lot -/
set_option maxRecDepth 100000
theorem gp_J11_floorDiv : gPar yJ11_floorDiv 2 := ⟨⟨by decide, by decide⟩, by decide +kernel⟩
theorem gp_X2_holdAll : gPar yX2_holdAll 1 := ⟨⟨by decide, by decide⟩, by decide +kernel⟩
theorem gp_X2_note : gPar yX2_note 2 := ⟨⟨by decide, by decide⟩, by decide +kernel⟩
set_option maxHeartbeats 4000000 in
set_option maxRecDepth 100000 in
/-- foretell -/
theorem met_X2_foretell (l : Launch) (K : gK) (mo : Nat) (A : mA) (σ : mS) (t : Nat) (ht : t < 40) (h7 : mn σ 7 < 64) : mMet l K mo A yX2_foretell cX2_foretell 8 (none) 3 118 [.int (nI (t))] σ (none) (m_foretell σ t) := by
  intro G hR0
  refine gMet.of (by decide) (Nat.le_of_ble_eq_true rfl) (fun p e s m below meth c ls hx hb X hr hin hG hS hl => ?_)
  have X : gC K p s m _ meth c cX2_foretell 8 "KalmanQuayModel" := X
  have hM := mPre hR0 hG
  have hl : lv_has ls 8 [(0, .ref (mo)), (1, .int (nI (t)))] := hl
  refine lv_aload_n hx hb dX2_foretell_0 rfl (lv_at hl 0 rfl) ?_
  refine mf25 X hM dX2_foretell_1 ?_
  refine lv_iload_n hx hb dX2_foretell_4 rfl (lv_at hl 1 rfl) ?_
  refine m_aaN X hM rfl (by omega) dX2_foretell_5 ?_
  refine lv_iconst (v := 2) hx hb dX2_foretell_6 (by decide) ?_
  refine m_ldN X hM rfl (by omega) (by decide) dX2_foretell_7 ?_
  refine lv_lstore_n (lv' := [(2, .long (mN σ t 2)), (0, .ref (mo)), (1, .int (nI (t)))]) hx hb dX2_foretell_8 rfl hl (by decide) rfl (fun ls hl => ?_)
  refine lv_aload_n hx hb dX2_foretell_9 rfl (lv_at hl 1 rfl) ?_
  refine mf25 X hM dX2_foretell_10 ?_
  refine lv_iload_n hx hb dX2_foretell_13 rfl (lv_at hl 2 rfl) ?_
  refine m_aaN X hM rfl (by omega) dX2_foretell_14 ?_
  refine lv_iconst (v := 3) hx hb dX2_foretell_15 (by decide) ?_
  refine m_ldN X hM rfl (by omega) (by decide) dX2_foretell_16 ?_
  refine lv_lstore (lv' := [(4, .long (mN σ t 3)), (2, .long (mN σ t 2)), (0, .ref (mo)), (1, .int (nI (t)))]) hx hb dX2_foretell_17 hl (by decide) rfl (fun ls hl => ?_)
  refine lv_aload_n hx hb dX2_foretell_19 rfl (lv_at hl 2 rfl) ?_
  refine mf25 X hM dX2_foretell_20 ?_
  refine lv_iload_n hx hb dX2_foretell_23 rfl (lv_at hl 3 rfl) ?_
  refine m_aaN X hM rfl (by omega) dX2_foretell_24 ?_
  refine lv_iconst (v := 4) hx hb dX2_foretell_25 (by decide) ?_
  refine m_ldN X hM rfl (by omega) (by decide) dX2_foretell_26 ?_
  refine lv_lstore (lv' := [(6, .long (mN σ t 4)), (4, .long (mN σ t 3)), (2, .long (mN σ t 2)), (0, .ref (mo)), (1, .int (nI (t)))]) hx hb dX2_foretell_27 hl (by decide) rfl (fun ls hl => ?_)
  refine lv_aload_n hx hb dX2_foretell_29 rfl (lv_at hl 3 rfl) ?_
  refine mf25 X hM dX2_foretell_30 ?_
  refine lv_iload_n hx hb dX2_foretell_33 rfl (lv_at hl 4 rfl) ?_
  refine m_aaN X hM rfl (by omega) dX2_foretell_34 ?_
  refine lv_iconst (v := 0) hx hb dX2_foretell_35 (by decide) ?_
  refine lv_dup2_11 hx hb dX2_foretell_36 rfl rfl ?_
  refine m_ldN X hM rfl (by omega) (by decide) dX2_foretell_37 ?_
  refine lv_aload_n hx hb dX2_foretell_38 rfl (lv_at hl 3 rfl) ?_
  refine mf25 X hM dX2_foretell_39 ?_
  refine lv_iload_n hx hb dX2_foretell_42 rfl (lv_at hl 4 rfl) ?_
  refine m_aaN X hM rfl (by omega) dX2_foretell_43 ?_
  refine lv_iconst (v := 1) hx hb dX2_foretell_44 (by decide) ?_
  refine m_ldN X hM rfl (by omega) (by decide) dX2_foretell_45 ?_
  refine lv_ladd hx hb dX2_foretell_46 ?_
  refine m_stN X hM hS rfl (by omega) (by decide) dX2_foretell_47 (fun H locs hM hS => ?_)
  refine lv_aload_n hx hb dX2_foretell_48 rfl (lv_at hl 3 rfl) ?_
  refine mf25 X hM dX2_foretell_49 ?_
  refine lv_iload_n hx hb dX2_foretell_52 rfl (lv_at hl 4 rfl) ?_
  refine m_aaN X hM rfl (by omega) dX2_foretell_53 ?_
  refine lv_iconst (v := 2) hx hb dX2_foretell_54 (by decide) ?_
  refine lv_lload_n hx hb dX2_foretell_55 rfl (lv_at hl 2 rfl) ?_
  refine lv_ldc2 (v := 2) hx hb X.1.2.2.2.1 (X.1.2.2.2.2 _ q1478) dX2_foretell_56 ?_
  refine lv_lload hx hb dX2_foretell_59 (lv_at hl 1 rfl) ?_
  refine lv_lmul hx hb dX2_foretell_61 ?_
  refine lv_ladd hx hb dX2_foretell_62 ?_
  refine lv_lload hx hb dX2_foretell_63 (lv_at hl 0 rfl) ?_
  refine lv_ladd hx hb dX2_foretell_65 ?_
  refine lv_aload_n hx hb dX2_foretell_66 rfl (lv_at hl 3 rfl) ?_
  refine mf0 X hM dX2_foretell_67 ?_
  refine g_topE (z := mz σ 0) (by simp [mz_sN]) ?_
  refine lv_iconst (v := 4) hx hb dX2_foretell_70 (by decide) ?_
  refine lv_idiv hx hb dX2_foretell_71 (by decide) ?_
  refine lv_i2l hx hb dX2_foretell_72 rfl ?_
  refine lv_ladd hx hb dX2_foretell_73 ?_
  refine m_stN X hM hS rfl (by omega) (by decide) dX2_foretell_74 (fun H locs hM hS => ?_)
  refine lv_aload_n hx hb dX2_foretell_75 rfl (lv_at hl 3 rfl) ?_
  refine mf25 X hM dX2_foretell_76 ?_
  refine lv_iload_n hx hb dX2_foretell_79 rfl (lv_at hl 4 rfl) ?_
  refine m_aaN X hM rfl (by omega) dX2_foretell_80 ?_
  refine lv_iconst (v := 3) hx hb dX2_foretell_81 (by decide) ?_
  refine lv_lload hx hb dX2_foretell_82 (lv_at hl 1 rfl) ?_
  refine lv_lload hx hb dX2_foretell_84 (lv_at hl 0 rfl) ?_
  refine lv_ladd hx hb dX2_foretell_86 ?_
  refine lv_aload_n hx hb dX2_foretell_87 rfl (lv_at hl 3 rfl) ?_
  refine mf0 X hM dX2_foretell_88 ?_
  refine g_topE (z := mz σ 0) (by simp [mz_sN]) ?_
  refine lv_iconst (v := 2) hx hb dX2_foretell_91 (by decide) ?_
  refine lv_idiv hx hb dX2_foretell_92 (by decide) ?_
  refine lv_i2l hx hb dX2_foretell_93 rfl ?_
  refine lv_ladd hx hb dX2_foretell_94 ?_
  refine m_stN X hM hS rfl (by omega) (by decide) dX2_foretell_95 (fun H locs hM hS => ?_)
  refine lv_aload_n hx hb dX2_foretell_96 rfl (lv_at hl 3 rfl) ?_
  refine mf25 X hM dX2_foretell_97 ?_
  refine lv_iload_n hx hb dX2_foretell_100 rfl (lv_at hl 4 rfl) ?_
  refine m_aaN X hM rfl (by omega) dX2_foretell_101 ?_
  refine lv_iconst (v := 4) hx hb dX2_foretell_102 (by decide) ?_
  refine lv_lload hx hb dX2_foretell_103 (lv_at hl 0 rfl) ?_
  refine lv_aload_n hx hb dX2_foretell_105 rfl (lv_at hl 3 rfl) ?_
  refine mf0 X hM dX2_foretell_106 ?_
  refine g_topE (z := mz σ 0) (by simp [mz_sN]) ?_
  refine lv_i2l hx hb dX2_foretell_109 rfl ?_
  refine lv_ladd hx hb dX2_foretell_110 ?_
  refine m_stN X hM hS rfl (by omega) (by decide) dX2_foretell_111 (fun H locs hM hS => ?_)
  refine lv_aload_n hx hb dX2_foretell_112 rfl (lv_at hl 3 rfl) ?_
  refine lv_iload_n hx hb dX2_foretell_113 rfl (lv_at hl 4 rfl) ?_
  refine m_call X (met_X2_holdAll l K mo A (sN (sN (sN (sN σ t 0 ((mN σ t 0) + (mN σ t 1))) t 2 ((((mN σ t 2) + (2 * (mN σ t 3))) + (mN σ t 4)) + (((mz σ 0) / 4).toInt64))) t 3 (((mN σ t 3) + (mN σ t 4)) + (((mz σ 0) / 2).toInt64))) t 4 ((mN σ t 4) + ((mz σ 0).toInt64))) (t) (by omega)) gp_X2_holdAll rfl q1479 q1481 qs18 q42 q1482 hM hS hl ⟨Nat.le_of_ble_eq_true rfl, Nat.le_of_ble_eq_true rfl⟩ ⟨Nat.le_refl _, Nat.le_refl _⟩ (rest := []) (Nat.le_of_ble_eq_true rfl) rfl dX2_foretell_114 (fun H locs hM hS => ?_)
  refine W.eq (g2 := F0 m 117 ls []) rfl ?_
  refine lv_aload_n hx hb dX2_foretell_117 rfl (lv_at hl 3 rfl) ?_
  refine mf25 X hM dX2_foretell_118 ?_
  refine lv_iload_n hx hb dX2_foretell_121 rfl (lv_at hl 4 rfl) ?_
  refine m_aaN X hM rfl (by omega) dX2_foretell_122 ?_
  refine lv_aload_n hx hb dX2_foretell_123 rfl (lv_at hl 3 rfl) ?_
  refine mf27 X hM dX2_foretell_124 ?_
  refine lv_iload_n hx hb dX2_foretell_127 rfl (lv_at hl 4 rfl) ?_
  refine m_aaF1 X hM rfl (by omega) dX2_foretell_128 ?_
  refine lv_aload_n hx hb dX2_foretell_129 rfl (lv_at hl 3 rfl) ?_
  refine mf7 X hM dX2_foretell_130 ?_
  refine g_topE (z := nI (mn σ 7)) (by simp [mn_m_holdAll, mn_sN]) ?_
  refine m_aaF2 X hM rfl (by omega) (by omega) dX2_foretell_133 ?_
  refine m_copyF X q1492 (by omega) (by omega) hM hS hl ⟨Nat.le_of_ble_eq_true rfl, Nat.le_of_ble_eq_true rfl⟩ ⟨Nat.le_refl _, Nat.le_refl _⟩ (rest := []) (Nat.le_of_ble_eq_true rfl) dX2_foretell_134 (fun H locs hM hS => ?_)
  refine W.eq (g2 := F0 m 137 ls []) rfl ?_
  exact m_vret X hr hM hS rfl (by simp [m_foretell, mN_sN, mz_sN, mn_m_holdAll, mn_sN]) (Nat.le_refl _) (Nat.le_refl _) dX2_foretell_137
set_option maxHeartbeats 4000000 in
set_option maxRecDepth 100000 in
/-- correct -/
theorem met_X2_correct (l : Launch) (K : gK) (mo : Nat) (A : mA) (σ : mS) (t h : Nat) (ht : t < 40) (hh : h < 8) (hs0 : mb σ 9 h < 4) (hz : ¬ m_spread σ t (mb σ 9 h) = 0) (hv : ¬ (ma σ 6 (mb σ 9 h)).toInt64 = 0) : mMet l K mo A yX2_correct cX2_correct 15 (none) 3 118 [.int (nI (t)), .int (nI (h))] σ (none) (m_correct σ t h) := by
  intro G hR0
  refine gMet.of (by decide) (Nat.le_of_ble_eq_true rfl) (fun p e s m below meth c ls hx hb X hr hin hG hS hl => ?_)
  have X : gC K p s m _ meth c cX2_correct 15 "KalmanQuayModel" := X
  have hM := mPre hR0 hG
  have hl : lv_has ls 15 [(0, .ref (mo)), (1, .int (nI (t))), (2, .int (nI (h)))] := hl
  refine lv_aload_n hx hb dX2_correct_0 rfl (lv_at hl 0 rfl) ?_
  refine lv_iload_n hx hb dX2_correct_1 rfl (lv_at hl 1 rfl) ?_
  refine lv_aload_n hx hb dX2_correct_2 rfl (lv_at hl 0 rfl) ?_
  refine mf9 X hM dX2_correct_3 ?_
  refine lv_iload_n hx hb dX2_correct_6 rfl (lv_at hl 2 rfl) ?_
  refine m_ldb X hM 9 8 rfl rfl (by omega) (by decide) dX2_correct_7 ?_
  refine m_call X (met_X2_spread l K mo A σ (t) (mb σ 9 h) ht hs0) gp_X2_spread rfl q1513 q1515 qs23 q42 q1516 hM hS hl ⟨Nat.le_of_ble_eq_true rfl, Nat.le_of_ble_eq_true rfl⟩ ⟨Nat.le_refl _, Nat.le_refl _⟩ (rest := []) (Nat.le_of_ble_eq_true rfl) rfl dX2_correct_8 (fun H locs hM hS => ?_)
  refine W.eq (g2 := F0 m 11 ls [.long (m_spread σ t (mb σ 9 h))]) rfl ?_
  refine lv_lstore_n (lv' := [(3, .long (m_spread σ t (mb σ 9 h))), (0, .ref (mo)), (1, .int (nI (t))), (2, .int (nI (h)))]) hx hb dX2_correct_11 rfl hl (by decide) rfl (fun ls hl => ?_)
  refine lv_aload_n hx hb dX2_correct_12 rfl (lv_at hl 1 rfl) ?_
  refine lv_iload_n hx hb dX2_correct_13 rfl (lv_at hl 2 rfl) ?_
  refine lv_iload_n hx hb dX2_correct_14 rfl (lv_at hl 3 rfl) ?_
  refine m_call X (met_X2_apartOf l K mo A σ (t) (h) ht hh) gp_X2_apartOf rfl q1507 q1509 qs22 q42 q1510 hM hS hl ⟨Nat.le_of_ble_eq_true rfl, Nat.le_of_ble_eq_true rfl⟩ ⟨Nat.le_refl _, Nat.le_refl _⟩ (rest := []) (Nat.le_of_ble_eq_true rfl) rfl dX2_correct_15 (fun H locs hM hS => ?_)
  refine W.eq (g2 := F0 m 18 ls [.long (m_apartOf σ t h)]) rfl ?_
  refine lv_lstore (lv' := [(5, .long (m_apartOf σ t h)), (3, .long (m_spread σ t (mb σ 9 h))), (0, .ref (mo)), (1, .int (nI (t))), (2, .int (nI (h)))]) hx hb dX2_correct_18 hl (by decide) rfl (fun ls hl => ?_)
  refine lv_aload_n hx hb dX2_correct_20 rfl (lv_at hl 2 rfl) ?_
  refine mf25 X hM dX2_correct_21 ?_
  refine lv_iload_n hx hb dX2_correct_24 rfl (lv_at hl 3 rfl) ?_
  refine m_aaN X hM rfl (by omega) dX2_correct_25 ?_
  refine lv_iconst (v := 2) hx hb dX2_correct_26 (by decide) ?_
  refine m_ldN X hM rfl (by omega) (by decide) dX2_correct_27 ?_
  refine lv_lstore (lv' := [(7, .long (mN σ t 2)), (5, .long (m_apartOf σ t h)), (3, .long (m_spread σ t (mb σ 9 h))), (0, .ref (mo)), (1, .int (nI (t))), (2, .int (nI (h)))]) hx hb dX2_correct_28 hl (by decide) rfl (fun ls hl => ?_)
  refine lv_aload_n hx hb dX2_correct_30 rfl (lv_at hl 3 rfl) ?_
  refine mf25 X hM dX2_correct_31 ?_
  refine lv_iload_n hx hb dX2_correct_34 rfl (lv_at hl 4 rfl) ?_
  refine m_aaN X hM rfl (by omega) dX2_correct_35 ?_
  refine lv_iconst (v := 3) hx hb dX2_correct_36 (by decide) ?_
  refine m_ldN X hM rfl (by omega) (by decide) dX2_correct_37 ?_
  refine lv_lstore (lv' := [(9, .long (mN σ t 3)), (7, .long (mN σ t 2)), (5, .long (m_apartOf σ t h)), (3, .long (m_spread σ t (mb σ 9 h))), (0, .ref (mo)), (1, .int (nI (t))), (2, .int (nI (h)))]) hx hb dX2_correct_38 hl (by decide) rfl (fun ls hl => ?_)
  refine lv_lload hx hb dX2_correct_40 (lv_at hl 1 rfl) ?_
  refine lv_ldc2 (v := 65536) hx hb X.1.2.2.2.1 (X.1.2.2.2.2 _ q1525) dX2_correct_42 ?_
  refine lv_lmul hx hb dX2_correct_45 ?_
  refine lv_lload_n hx hb dX2_correct_46 rfl (lv_at hl 3 rfl) ?_
  refine m_callP X (met_J11_floorDiv l K ((mN σ t 2) * 65536) (m_spread σ t (mb σ 9 h)) hz) gp_J11_floorDiv rfl q1526 q977 q52 q978 hM hS hl ⟨Nat.le_of_ble_eq_true rfl, Nat.le_of_ble_eq_true rfl⟩ ⟨Nat.le_refl _, Nat.le_refl _⟩ (rest := []) (Nat.le_of_ble_eq_true rfl) rfl dX2_correct_47 (fun H locs hM hS => ?_)
  refine W.eq (g2 := F0 m 50 ls [.long (l_fdiv ((mN σ t 2) * 65536) (m_spread σ t (mb σ 9 h)))]) rfl ?_
  refine lv_lstore (lv' := [(11, .long (l_fdiv ((mN σ t 2) * 65536) (m_spread σ t (mb σ 9 h)))), (9, .long (mN σ t 3)), (7, .long (mN σ t 2)), (5, .long (m_apartOf σ t h)), (3, .long (m_spread σ t (mb σ 9 h))), (0, .ref (mo)), (1, .int (nI (t))), (2, .int (nI (h)))]) hx hb dX2_correct_50 hl (by decide) rfl (fun ls hl => ?_)
  refine lv_lload hx hb dX2_correct_52 (lv_at hl 1 rfl) ?_
  refine lv_ldc2 (v := 65536) hx hb X.1.2.2.2.1 (X.1.2.2.2.2 _ q1525) dX2_correct_54 ?_
  refine lv_lmul hx hb dX2_correct_57 ?_
  refine lv_lload_n hx hb dX2_correct_58 rfl (lv_at hl 4 rfl) ?_
  refine m_callP X (met_J11_floorDiv l K ((mN σ t 3) * 65536) (m_spread σ t (mb σ 9 h)) hz) gp_J11_floorDiv rfl q1526 q977 q52 q978 hM hS hl ⟨Nat.le_of_ble_eq_true rfl, Nat.le_of_ble_eq_true rfl⟩ ⟨Nat.le_refl _, Nat.le_refl _⟩ (rest := []) (Nat.le_of_ble_eq_true rfl) rfl dX2_correct_59 (fun H locs hM hS => ?_)
  refine W.eq (g2 := F0 m 62 ls [.long (l_fdiv ((mN σ t 3) * 65536) (m_spread σ t (mb σ 9 h)))]) rfl ?_
  refine lv_lstore (lv' := [(13, .long (l_fdiv ((mN σ t 3) * 65536) (m_spread σ t (mb σ 9 h)))), (11, .long (l_fdiv ((mN σ t 2) * 65536) (m_spread σ t (mb σ 9 h)))), (9, .long (mN σ t 3)), (7, .long (mN σ t 2)), (5, .long (m_apartOf σ t h)), (3, .long (m_spread σ t (mb σ 9 h))), (0, .ref (mo)), (1, .int (nI (t))), (2, .int (nI (h)))]) hx hb dX2_correct_62 hl (by decide) rfl (fun ls hl => ?_)
  refine lv_aload_n hx hb dX2_correct_64 rfl (lv_at hl 6 rfl) ?_
  refine mf25 X hM dX2_correct_65 ?_
  refine lv_iload_n hx hb dX2_correct_68 rfl (lv_at hl 7 rfl) ?_
  refine m_aaN X hM rfl (by omega) dX2_correct_69 ?_
  refine lv_iconst (v := 0) hx hb dX2_correct_70 (by decide) ?_
  refine lv_dup2_11 hx hb dX2_correct_71 rfl rfl ?_
  refine m_ldN X hM rfl (by omega) (by decide) dX2_correct_72 ?_
  refine lv_lload hx hb dX2_correct_73 (lv_at hl 1 rfl) ?_
  refine lv_lload hx hb dX2_correct_75 (lv_at hl 4 rfl) ?_
  refine lv_lmul hx hb dX2_correct_77 ?_
  refine lv_ldc2 (v := 65536) hx hb X.1.2.2.2.1 (X.1.2.2.2.2 _ q1525) dX2_correct_78 ?_
  refine m_callP X (met_J11_floorDiv l K ((l_fdiv ((mN σ t 2) * 65536) (m_spread σ t (mb σ 9 h))) * (m_apartOf σ t h)) (65536) (by decide)) gp_J11_floorDiv rfl q1526 q977 q52 q978 hM hS hl ⟨Nat.le_of_ble_eq_true rfl, Nat.le_of_ble_eq_true rfl⟩ ⟨Nat.le_refl _, Nat.le_refl _⟩ (rest := [.long (mN σ t 0), .int (0), .ref (A.2.1 t)]) (Nat.le_of_ble_eq_true rfl) rfl dX2_correct_81 (fun H locs hM hS => ?_)
  refine W.eq (g2 := F0 m 84 ls [.long (l_fdiv ((l_fdiv ((mN σ t 2) * 65536) (m_spread σ t (mb σ 9 h))) * (m_apartOf σ t h)) 65536), .long (mN σ t 0), .int (0), .ref (A.2.1 t)]) rfl ?_
  refine lv_ladd hx hb dX2_correct_84 ?_
  refine m_stN X hM hS rfl (by omega) (by decide) dX2_correct_85 (fun H locs hM hS => ?_)
  refine lv_aload_n hx hb dX2_correct_86 rfl (lv_at hl 6 rfl) ?_
  refine mf25 X hM dX2_correct_87 ?_
  refine lv_iload_n hx hb dX2_correct_90 rfl (lv_at hl 7 rfl) ?_
  refine m_aaN X hM rfl (by omega) dX2_correct_91 ?_
  refine lv_iconst (v := 1) hx hb dX2_correct_92 (by decide) ?_
  refine lv_dup2_11 hx hb dX2_correct_93 rfl rfl ?_
  refine m_ldN X hM rfl (by omega) (by decide) dX2_correct_94 ?_
  refine g_topL (z := mN σ t 1) (by simp [mN_sN]) ?_
  refine lv_lload hx hb dX2_correct_95 (lv_at hl 0 rfl) ?_
  refine lv_lload hx hb dX2_correct_97 (lv_at hl 4 rfl) ?_
  refine lv_lmul hx hb dX2_correct_99 ?_
  refine lv_ldc2 (v := 65536) hx hb X.1.2.2.2.1 (X.1.2.2.2.2 _ q1525) dX2_correct_100 ?_
  refine m_callP X (met_J11_floorDiv l K ((l_fdiv ((mN σ t 3) * 65536) (m_spread σ t (mb σ 9 h))) * (m_apartOf σ t h)) (65536) (by decide)) gp_J11_floorDiv rfl q1526 q977 q52 q978 hM hS hl ⟨Nat.le_of_ble_eq_true rfl, Nat.le_of_ble_eq_true rfl⟩ ⟨Nat.le_refl _, Nat.le_refl _⟩ (rest := [.long (mN σ t 1), .int (1), .ref (A.2.1 t)]) (Nat.le_of_ble_eq_true rfl) rfl dX2_correct_103 (fun H locs hM hS => ?_)
  refine W.eq (g2 := F0 m 106 ls [.long (l_fdiv ((l_fdiv ((mN σ t 3) * 65536) (m_spread σ t (mb σ 9 h))) * (m_apartOf σ t h)) 65536), .long (mN σ t 1), .int (1), .ref (A.2.1 t)]) rfl ?_
  refine lv_ladd hx hb dX2_correct_106 ?_
  refine m_stN X hM hS rfl (by omega) (by decide) dX2_correct_107 (fun H locs hM hS => ?_)
  refine lv_aload_n hx hb dX2_correct_108 rfl (lv_at hl 6 rfl) ?_
  refine mf25 X hM dX2_correct_109 ?_
  refine lv_iload_n hx hb dX2_correct_112 rfl (lv_at hl 7 rfl) ?_
  refine m_aaN X hM rfl (by omega) dX2_correct_113 ?_
  refine lv_iconst (v := 4) hx hb dX2_correct_114 (by decide) ?_
  refine lv_dup2_11 hx hb dX2_correct_115 rfl rfl ?_
  refine m_ldN X hM rfl (by omega) (by decide) dX2_correct_116 ?_
  refine g_topL (z := mN σ t 4) (by simp [mN_sN]) ?_
  refine lv_lload hx hb dX2_correct_117 (lv_at hl 0 rfl) ?_
  refine lv_lload hx hb dX2_correct_119 (lv_at hl 2 rfl) ?_
  refine lv_lmul hx hb dX2_correct_121 ?_
  refine lv_ldc2 (v := 65536) hx hb X.1.2.2.2.1 (X.1.2.2.2.2 _ q1525) dX2_correct_122 ?_
  refine m_callP X (met_J11_floorDiv l K ((l_fdiv ((mN σ t 3) * 65536) (m_spread σ t (mb σ 9 h))) * (mN σ t 3)) (65536) (by decide)) gp_J11_floorDiv rfl q1526 q977 q52 q978 hM hS hl ⟨Nat.le_of_ble_eq_true rfl, Nat.le_of_ble_eq_true rfl⟩ ⟨Nat.le_refl _, Nat.le_refl _⟩ (rest := [.long (mN σ t 4), .int (4), .ref (A.2.1 t)]) (Nat.le_of_ble_eq_true rfl) rfl dX2_correct_125 (fun H locs hM hS => ?_)
  refine W.eq (g2 := F0 m 128 ls [.long (l_fdiv ((l_fdiv ((mN σ t 3) * 65536) (m_spread σ t (mb σ 9 h))) * (mN σ t 3)) 65536), .long (mN σ t 4), .int (4), .ref (A.2.1 t)]) rfl ?_
  refine lv_lsub hx hb dX2_correct_128 ?_
  refine m_stN X hM hS rfl (by omega) (by decide) dX2_correct_129 (fun H locs hM hS => ?_)
  refine lv_aload_n hx hb dX2_correct_130 rfl (lv_at hl 6 rfl) ?_
  refine mf25 X hM dX2_correct_131 ?_
  refine lv_iload_n hx hb dX2_correct_134 rfl (lv_at hl 7 rfl) ?_
  refine m_aaN X hM rfl (by omega) dX2_correct_135 ?_
  refine lv_iconst (v := 3) hx hb dX2_correct_136 (by decide) ?_
  refine lv_lload hx hb dX2_correct_137 (lv_at hl 2 rfl) ?_
  refine lv_lload hx hb dX2_correct_139 (lv_at hl 1 rfl) ?_
  refine lv_lload hx hb dX2_correct_141 (lv_at hl 2 rfl) ?_
  refine lv_lmul hx hb dX2_correct_143 ?_
  refine lv_ldc2 (v := 65536) hx hb X.1.2.2.2.1 (X.1.2.2.2.2 _ q1525) dX2_correct_144 ?_
  refine m_callP X (met_J11_floorDiv l K ((l_fdiv ((mN σ t 2) * 65536) (m_spread σ t (mb σ 9 h))) * (mN σ t 3)) (65536) (by decide)) gp_J11_floorDiv rfl q1526 q977 q52 q978 hM hS hl ⟨Nat.le_of_ble_eq_true rfl, Nat.le_of_ble_eq_true rfl⟩ ⟨Nat.le_refl _, Nat.le_refl _⟩ (rest := [.long (mN σ t 3), .int (3), .ref (A.2.1 t)]) (Nat.le_of_ble_eq_true rfl) rfl dX2_correct_147 (fun H locs hM hS => ?_)
  refine W.eq (g2 := F0 m 150 ls [.long (l_fdiv ((l_fdiv ((mN σ t 2) * 65536) (m_spread σ t (mb σ 9 h))) * (mN σ t 3)) 65536), .long (mN σ t 3), .int (3), .ref (A.2.1 t)]) rfl ?_
  refine lv_lsub hx hb dX2_correct_150 ?_
  refine m_stN X hM hS rfl (by omega) (by decide) dX2_correct_151 (fun H locs hM hS => ?_)
  refine lv_aload_n hx hb dX2_correct_152 rfl (lv_at hl 6 rfl) ?_
  refine mf25 X hM dX2_correct_153 ?_
  refine lv_iload_n hx hb dX2_correct_156 rfl (lv_at hl 7 rfl) ?_
  refine m_aaN X hM rfl (by omega) dX2_correct_157 ?_
  refine lv_iconst (v := 2) hx hb dX2_correct_158 (by decide) ?_
  refine lv_lload hx hb dX2_correct_159 (lv_at hl 3 rfl) ?_
  refine lv_lload hx hb dX2_correct_161 (lv_at hl 1 rfl) ?_
  refine lv_lload hx hb dX2_correct_163 (lv_at hl 3 rfl) ?_
  refine lv_lmul hx hb dX2_correct_165 ?_
  refine lv_ldc2 (v := 65536) hx hb X.1.2.2.2.1 (X.1.2.2.2.2 _ q1525) dX2_correct_166 ?_
  refine m_callP X (met_J11_floorDiv l K ((l_fdiv ((mN σ t 2) * 65536) (m_spread σ t (mb σ 9 h))) * (mN σ t 2)) (65536) (by decide)) gp_J11_floorDiv rfl q1526 q977 q52 q978 hM hS hl ⟨Nat.le_of_ble_eq_true rfl, Nat.le_of_ble_eq_true rfl⟩ ⟨Nat.le_refl _, Nat.le_refl _⟩ (rest := [.long (mN σ t 2), .int (2), .ref (A.2.1 t)]) (Nat.le_of_ble_eq_true rfl) rfl dX2_correct_169 (fun H locs hM hS => ?_)
  refine W.eq (g2 := F0 m 172 ls [.long (l_fdiv ((l_fdiv ((mN σ t 2) * 65536) (m_spread σ t (mb σ 9 h))) * (mN σ t 2)) 65536), .long (mN σ t 2), .int (2), .ref (A.2.1 t)]) rfl ?_
  refine lv_lsub hx hb dX2_correct_172 ?_
  refine m_stN X hM hS rfl (by omega) (by decide) dX2_correct_173 (fun H locs hM hS => ?_)
  refine lv_aload_n hx hb dX2_correct_174 rfl (lv_at hl 6 rfl) ?_
  refine lv_iload_n hx hb dX2_correct_175 rfl (lv_at hl 7 rfl) ?_
  refine m_call X (met_X2_holdAll l K mo A (sN (sN (sN (sN (sN σ t 0 ((mN σ t 0) + (l_fdiv ((l_fdiv ((mN σ t 2) * 65536) (m_spread σ t (mb σ 9 h))) * (m_apartOf σ t h)) 65536))) t 1 ((mN σ t 1) + (l_fdiv ((l_fdiv ((mN σ t 3) * 65536) (m_spread σ t (mb σ 9 h))) * (m_apartOf σ t h)) 65536))) t 4 ((mN σ t 4) - (l_fdiv ((l_fdiv ((mN σ t 3) * 65536) (m_spread σ t (mb σ 9 h))) * (mN σ t 3)) 65536))) t 3 ((mN σ t 3) - (l_fdiv ((l_fdiv ((mN σ t 2) * 65536) (m_spread σ t (mb σ 9 h))) * (mN σ t 3)) 65536))) t 2 ((mN σ t 2) - (l_fdiv ((l_fdiv ((mN σ t 2) * 65536) (m_spread σ t (mb σ 9 h))) * (mN σ t 2)) 65536))) (t) ht) gp_X2_holdAll rfl q1479 q1481 qs18 q42 q1482 hM hS hl ⟨Nat.le_of_ble_eq_true rfl, Nat.le_of_ble_eq_true rfl⟩ ⟨Nat.le_refl _, Nat.le_refl _⟩ (rest := []) (Nat.le_of_ble_eq_true rfl) rfl dX2_correct_176 (fun H locs hM hS => ?_)
  refine W.eq (g2 := F0 m 179 ls []) rfl ?_
  refine lv_aload_n hx hb dX2_correct_179 rfl (lv_at hl 6 rfl) ?_
  refine mf19 X hM dX2_correct_180 ?_
  refine lv_iload_n hx hb dX2_correct_183 rfl (lv_at hl 7 rfl) ?_
  refine lv_iconst (v := 1) hx hb dX2_correct_184 (by decide) ?_
  refine m_stc X hM hS 19 40 (fun _ => rfl) rfl (by omega) (by decide) (by decide) (v := true) rfl dX2_correct_185 (fun H locs hM hS => ?_)
  refine lv_aload_n hx hb dX2_correct_186 rfl (lv_at hl 6 rfl) ?_
  refine mf12 X hM dX2_correct_187 ?_
  refine lv_iload_n hx hb dX2_correct_190 rfl (lv_at hl 8 rfl) ?_
  refine lv_iload_n hx hb dX2_correct_191 rfl (lv_at hl 7 rfl) ?_
  refine m_sta X hM hS 12 8 (fun _ => rfl) rfl (by omega) (by decide) (by decide) dX2_correct_192 (fun H locs hM hS => ?_)
  refine lv_aload_n hx hb dX2_correct_193 rfl (lv_at hl 6 rfl) ?_
  refine lv_dup hx hb dX2_correct_194 rfl ?_
  refine mf14 X hM dX2_correct_195 ?_
  refine g_topE (z := nI (mn σ 14)) (by simp [mn_sa, mn_sc, mn_m_holdAll, mn_sN]) ?_
  refine lv_iconst (v := 1) hx hb dX2_correct_198 (by decide) ?_
  refine lv_iadd hx hb dX2_correct_199 ?_
  refine g_topN (n_add (a := mn σ 14) (b := 1) rfl rfl) ?_
  refine mp14 X hM hS (v := (mn σ 14) + 1) rfl dX2_correct_200 (fun H locs hM hS => ?_)
  refine lv_aload_n hx hb dX2_correct_203 rfl (lv_at hl 6 rfl) ?_
  refine lv_iload_n hx hb dX2_correct_204 rfl (lv_at hl 7 rfl) ?_
  refine lv_iload_n hx hb dX2_correct_205 rfl (lv_at hl 8 rfl) ?_
  refine m_call X (met_X2_note l K mo A (sn (sa (sc (m_holdAll (sN (sN (sN (sN (sN σ t 0 ((mN σ t 0) + (l_fdiv ((l_fdiv ((mN σ t 2) * 65536) (m_spread σ t (mb σ 9 h))) * (m_apartOf σ t h)) 65536))) t 1 ((mN σ t 1) + (l_fdiv ((l_fdiv ((mN σ t 3) * 65536) (m_spread σ t (mb σ 9 h))) * (m_apartOf σ t h)) 65536))) t 4 ((mN σ t 4) - (l_fdiv ((l_fdiv ((mN σ t 3) * 65536) (m_spread σ t (mb σ 9 h))) * (mN σ t 3)) 65536))) t 3 ((mN σ t 3) - (l_fdiv ((l_fdiv ((mN σ t 2) * 65536) (m_spread σ t (mb σ 9 h))) * (mN σ t 3)) 65536))) t 2 ((mN σ t 2) - (l_fdiv ((l_fdiv ((mN σ t 2) * 65536) (m_spread σ t (mb σ 9 h))) * (mN σ t 2)) 65536))) t) 19 t (true)) 12 h (nI (t))) 14 ((mn σ 14) + 1)) (t) (h) ht hh (by simpa [mb_sN, mb_m_holdAll, mb_sc, mb_sa, mb_sn] using hs0) (by simpa [ma_sN, ma_m_holdAll, ma_sc, ma_sa, ma_sn, mb_sN, mb_m_holdAll, mb_sc, mb_sa, mb_sn] using hv)) gp_X2_note rfl q1527 q1529 qs26 q42 q1530 hM hS hl ⟨Nat.le_of_ble_eq_true rfl, Nat.le_of_ble_eq_true rfl⟩ ⟨Nat.le_refl _, Nat.le_refl _⟩ (rest := []) (Nat.le_of_ble_eq_true rfl) rfl dX2_correct_206 (fun H locs hM hS => ?_)
  refine W.eq (g2 := F0 m 209 ls []) rfl ?_
  exact m_vret X hr hM hS rfl (by simp [m_correct, mN_sN, mn_sa, mn_sc, mn_m_holdAll, mn_sN]) (Nat.le_refl _) (Nat.le_refl _) dX2_correct_209
set_option maxHeartbeats 4000000 in
set_option maxRecDepth 100000 in
/-- aliveNow -/
theorem met_X2_aliveNow (l : Launch) (K : gK) (mo : Nat) (A : mA) (σ : mS) (h15 : mn σ 15 ≤ 40) : mMet l K mo A yX2_aliveNow cX2_aliveNow 3 (some .int) 0 0 [] σ (some (.int (nI (m_alive σ)))) (σ) := by
  intro G hR0
  refine gMet.of (by decide) (Nat.le_of_ble_eq_true rfl) (fun p e s m below meth c ls hx hb X hr hin hG hS hl => ?_)
  have X : gC K p s m _ meth c cX2_aliveNow 3 "KalmanQuayModel" := X
  have hM := mPre hR0 hG
  have hl : lv_has ls 3 [(0, .ref (mo))] := hl
  refine lv_iconst (v := 0) hx hb dX2_aliveNow_0 (by decide) ?_
  refine lv_istore_n (lv' := [(1, .int (0)), (0, .ref (mo))]) hx hb dX2_aliveNow_1 rfl hl (by decide) rfl (fun ls hl => ?_)
  refine lv_iconst (v := 0) hx hb dX2_aliveNow_2 (by decide) ?_
  refine lv_istore_n (lv' := [(2, .int (0)), (1, .int (0)), (0, .ref (mo))]) hx hb dX2_aliveNow_3 rfl hl (by decide) rfl (fun ls hl => ?_)
  have loop_4 : ∀ (n i : Nat) (H : Heap) (locs : List Loc) (ls : Array Slot), i + n = mn σ 15 → mH K mo A σ G H → va_S (gA K) s.heap H locs → lv_has ls 3 [(2, .int (nI (i))), (1, .int (nI (m_cnt (mc σ 16) i))), (0, .ref (mo))] → W p l e ({ frames := 0, cells := 0, slots := 0, locals := 0 } : Room) s m ([.ref (mo)] : List Value).toArray below meth c H locs 0 0 (MQ below (gQ K (fun w G1 => w = (some (.int (nI (m_alive σ)))) ∧ mR K mo A (σ) G1 ∧ gF mT G G1)) ([.ref (mo)] : List Value).toArray s 0 0 (gA K)) (F0 m 4 ls []) := by
    intro n
    induction n with
    | zero =>
      intro i H locs ls hi_4 hM hS hl
      refine lv_iload_n hx hb dX2_aliveNow_4 rfl (lv_at hl 0 rfl) ?_
      refine lv_aload_n hx hb dX2_aliveNow_5 rfl (lv_at hl 2 rfl) ?_
      refine mf15 X hM dX2_aliveNow_6 ?_
      refine g_icmp_ge hx hb 35 dX2_aliveNow_9 (by decide) (a := i) (b := mn σ 15) rfl rfl (by omega) (by omega) (fun c_9 => ?_) (fun c_9 => ?_)
      · skip
        refine lv_iload_n hx hb dX2_aliveNow_35 rfl (lv_at hl 1 rfl) ?_
        exact m_iret X hr hM hS (by rw [show i = mn σ 15 by omega]; rfl) rfl (Nat.le_refl _) (Nat.le_refl _) dX2_aliveNow_36
      · skip
        exact absurd c_9 (by omega)
    | succ n ih_4 =>
      intro i H locs ls hi_4 hM hS hl
      refine lv_iload_n hx hb dX2_aliveNow_4 rfl (lv_at hl 0 rfl) ?_
      refine lv_aload_n hx hb dX2_aliveNow_5 rfl (lv_at hl 2 rfl) ?_
      refine mf15 X hM dX2_aliveNow_6 ?_
      refine g_icmp_ge hx hb 35 dX2_aliveNow_9 (by decide) (a := i) (b := mn σ 15) rfl rfl (by omega) (by omega) (fun c_9 => ?_) (fun c_9 => ?_)
      · skip
        exact absurd c_9 (by omega)
      · skip
        refine lv_iload_n hx hb dX2_aliveNow_12 rfl (lv_at hl 1 rfl) ?_
        refine lv_aload_n hx hb dX2_aliveNow_13 rfl (lv_at hl 2 rfl) ?_
        refine mf16 X hM dX2_aliveNow_14 ?_
        refine lv_iload_n hx hb dX2_aliveNow_17 rfl (lv_at hl 0 rfl) ?_
        refine m_ldc X hM 16 40 rfl rfl (by omega) (by decide) dX2_aliveNow_18 ?_
        refine g_ifb_eq hx hb 26 dX2_aliveNow_19 (by decide) (fun c_19 => ?_) (fun c_19 => ?_)
        · skip
          refine lv_iconst (v := 0) hx hb dX2_aliveNow_26 (by decide) ?_
          refine lv_iadd hx hb dX2_aliveNow_27 ?_
          refine g_topN (n_add (a := m_cnt (mc σ 16) i) (b := 0) rfl rfl) ?_
          refine lv_istore_n (lv' := [(1, .int (nI ((m_cnt (mc σ 16) i) + 0))), (2, .int (nI (i))), (0, .ref (mo))]) hx hb dX2_aliveNow_28 rfl hl (by decide) rfl (fun ls hl => ?_)
          refine lv_iinc (v := nI (i + 1)) (lv' := [(2, .int (nI (i + 1))), (1, .int (nI ((m_cnt (mc σ 16) i) + 0))), (0, .ref (mo))]) hx hb dX2_aliveNow_29 hl (k := 1) rfl (n_add (a := i) (b := 1) rfl rfl) (by decide) rfl (fun ls hl => ?_)
          refine lv_goto (tgt := 4) hx hb dX2_aliveNow_32 (by decide) ?_
          have e_1 : m_cnt (mc σ 16) (i + 1) = (m_cnt (mc σ 16) i) + 0 := by simp [m_cnt, c_19]
          rw [← e_1] at hl
          exact ih_4 (i + 1) H locs ls (by omega) hM hS (lv_sub hl [0, 1, 2] rfl)
        · skip
          refine lv_iconst (v := 1) hx hb dX2_aliveNow_22 (by decide) ?_
          refine lv_goto (tgt := 27) hx hb dX2_aliveNow_23 (by decide) ?_
          refine lv_iadd hx hb dX2_aliveNow_27 ?_
          refine g_topN (n_add (a := m_cnt (mc σ 16) i) (b := 1) rfl rfl) ?_
          refine lv_istore_n (lv' := [(1, .int (nI ((m_cnt (mc σ 16) i) + 1))), (2, .int (nI (i))), (0, .ref (mo))]) hx hb dX2_aliveNow_28 rfl hl (by decide) rfl (fun ls hl => ?_)
          refine lv_iinc (v := nI (i + 1)) (lv' := [(2, .int (nI (i + 1))), (1, .int (nI ((m_cnt (mc σ 16) i) + 1))), (0, .ref (mo))]) hx hb dX2_aliveNow_29 hl (k := 1) rfl (n_add (a := i) (b := 1) rfl rfl) (by decide) rfl (fun ls hl => ?_)
          refine lv_goto (tgt := 4) hx hb dX2_aliveNow_32 (by decide) ?_
          have e_1 : m_cnt (mc σ 16) (i + 1) = (m_cnt (mc σ 16) i) + 1 := by simp [m_cnt, c_19]
          rw [← e_1] at hl
          exact ih_4 (i + 1) H locs ls (by omega) hM hS (lv_sub hl [0, 1, 2] rfl)
  exact loop_4 (mn σ 15) 0 _ _ ls (by omega) hM hS (lv_sub hl [0, 1, 2] rfl)
