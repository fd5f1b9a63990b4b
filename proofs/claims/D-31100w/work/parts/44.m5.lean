/-! the reference: fifth lot -/
set_option maxRecDepth 100000
theorem gp_X2_aliveNow : gPar yX2_aliveNow 0 := ⟨⟨by decide, by decide⟩, by decide +kernel⟩
theorem gp_X2_smooth : gPar yX2_smooth 2 := ⟨⟨by decide, by decide⟩, by decide +kernel⟩
theorem gp_X2_smoothBack : gPar yX2_smoothBack 2 := ⟨⟨by decide, by decide⟩, by decide +kernel⟩
set_option maxHeartbeats 4000000 in
set_option maxRecDepth 100000 in
/-- smoothBack -/
theorem met_X2_smoothBack (l : Launch) (K : gK) (mo : Nat) (A : mA) (σ : mS) (t k : Nat) (ht : t < 40) (hk : k + 1 < 64) : mMet l K mo A yX2_smoothBack cX2_smoothBack 31 (none) 1 41 [.int (nI (t)), .int (nI (k))] σ (none) (m_back σ t k) := by
  intro G hR0
  refine gMet.of (by decide) (Nat.le_of_ble_eq_true rfl) (fun p e s m below meth c ls hx hb X hr hin hG hS hl => ?_)
  have X : gC K p s m _ meth c cX2_smoothBack 31 "KalmanQuayModel" := X
  have hM := mPre hR0 hG
  have hl : lv_has ls 31 [(0, .ref (mo)), (1, .int (nI (t))), (2, .int (nI (k)))] := hl
  refine lv_aload_n hx hb dX2_smoothBack_0 rfl (lv_at hl 0 rfl) ?_
  refine mf26 X hM dX2_smoothBack_1 ?_
  refine lv_iload_n hx hb dX2_smoothBack_4 rfl (lv_at hl 1 rfl) ?_
  refine m_aaB1 X hM rfl (by omega) dX2_smoothBack_5 ?_
  refine lv_iload_n hx hb dX2_smoothBack_6 rfl (lv_at hl 2 rfl) ?_
  refine m_aaB2 X hM rfl (by omega) (by omega) dX2_smoothBack_7 ?_
  refine lv_astore_n (lv' := [(3, .ref (A.2.2.2.1 t k)), (0, .ref (mo)), (1, .int (nI (t))), (2, .int (nI (k)))]) hx hb dX2_smoothBack_8 rfl hl (by decide) rfl (fun ls hl => ?_)
  refine lv_aload_n hx hb dX2_smoothBack_9 rfl (lv_at hl 1 rfl) ?_
  refine mf27 X hM dX2_smoothBack_10 ?_
  refine lv_iload_n hx hb dX2_smoothBack_13 rfl (lv_at hl 2 rfl) ?_
  refine m_aaF1 X hM rfl (by omega) dX2_smoothBack_14 ?_
  refine lv_iload_n hx hb dX2_smoothBack_15 rfl (lv_at hl 3 rfl) ?_
  refine lv_iconst (v := 1) hx hb dX2_smoothBack_16 (by decide) ?_
  refine lv_iadd hx hb dX2_smoothBack_17 ?_
  refine g_topN (n_add (a := k) (b := 1) rfl rfl) ?_
  refine m_aaF2 X hM rfl (by omega) (by omega) dX2_smoothBack_18 ?_
  refine lv_astore (lv' := [(4, .ref (A.2.2.2.2.2 t (k + 1))), (3, .ref (A.2.2.2.1 t k)), (0, .ref (mo)), (1, .int (nI (t))), (2, .int (nI (k)))]) hx hb dX2_smoothBack_19 hl (by decide) rfl (fun ls hl => ?_)
  refine lv_aload_n hx hb dX2_smoothBack_21 rfl (lv_at hl 1 rfl) ?_
  refine lv_iconst (v := 2) hx hb dX2_smoothBack_22 (by decide) ?_
  refine m_ldB X hM rfl (by omega) (by omega) (by decide) dX2_smoothBack_23 ?_
  refine lv_lstore (lv' := [(5, .long (mB σ t k 2)), (4, .ref (A.2.2.2.2.2 t (k + 1))), (3, .ref (A.2.2.2.1 t k)), (0, .ref (mo)), (1, .int (nI (t))), (2, .int (nI (k)))]) hx hb dX2_smoothBack_24 hl (by decide) rfl (fun ls hl => ?_)
  refine lv_aload_n hx hb dX2_smoothBack_26 rfl (lv_at hl 2 rfl) ?_
  refine lv_iconst (v := 3) hx hb dX2_smoothBack_27 (by decide) ?_
  refine m_ldB X hM rfl (by omega) (by omega) (by decide) dX2_smoothBack_28 ?_
  refine lv_lstore (lv' := [(7, .long (mB σ t k 3)), (5, .long (mB σ t k 2)), (4, .ref (A.2.2.2.2.2 t (k + 1))), (3, .ref (A.2.2.2.1 t k)), (0, .ref (mo)), (1, .int (nI (t))), (2, .int (nI (k)))]) hx hb dX2_smoothBack_29 hl (by decide) rfl (fun ls hl => ?_)
  refine lv_aload_n hx hb dX2_smoothBack_31 rfl (lv_at hl 3 rfl) ?_
  refine lv_iconst (v := 4) hx hb dX2_smoothBack_32 (by decide) ?_
  refine m_ldB X hM rfl (by omega) (by omega) (by decide) dX2_smoothBack_33 ?_
  refine lv_lstore (lv' := [(9, .long (mB σ t k 4)), (7, .long (mB σ t k 3)), (5, .long (mB σ t k 2)), (4, .ref (A.2.2.2.2.2 t (k + 1))), (3, .ref (A.2.2.2.1 t k)), (0, .ref (mo)), (1, .int (nI (t))), (2, .int (nI (k)))]) hx hb dX2_smoothBack_34 hl (by decide) rfl (fun ls hl => ?_)
  refine lv_aload hx hb dX2_smoothBack_36 (lv_at hl 3 rfl) ?_
  refine lv_iconst (v := 2) hx hb dX2_smoothBack_38 (by decide) ?_
  refine m_ldF X hM rfl (by omega) (by omega) (by decide) dX2_smoothBack_39 ?_
  refine lv_lstore (lv' := [(11, .long (mF σ t (k + 1) 2)), (9, .long (mB σ t k 4)), (7, .long (mB σ t k 3)), (5, .long (mB σ t k 2)), (4, .ref (A.2.2.2.2.2 t (k + 1))), (3, .ref (A.2.2.2.1 t k)), (0, .ref (mo)), (1, .int (nI (t))), (2, .int (nI (k)))]) hx hb dX2_smoothBack_40 hl (by decide) rfl (fun ls hl => ?_)
  refine lv_aload hx hb dX2_smoothBack_42 (lv_at hl 4 rfl) ?_
  refine lv_iconst (v := 3) hx hb dX2_smoothBack_44 (by decide) ?_
  refine m_ldF X hM rfl (by omega) (by omega) (by decide) dX2_smoothBack_45 ?_
  refine lv_lstore (lv' := [(13, .long (mF σ t (k + 1) 3)), (11, .long (mF σ t (k + 1) 2)), (9, .long (mB σ t k 4)), (7, .long (mB σ t k 3)), (5, .long (mB σ t k 2)), (4, .ref (A.2.2.2.2.2 t (k + 1))), (3, .ref (A.2.2.2.1 t k)), (0, .ref (mo)), (1, .int (nI (t))), (2, .int (nI (k)))]) hx hb dX2_smoothBack_46 hl (by decide) rfl (fun ls hl => ?_)
  refine lv_aload hx hb dX2_smoothBack_48 (lv_at hl 5 rfl) ?_
  refine lv_iconst (v := 4) hx hb dX2_smoothBack_50 (by decide) ?_
  refine m_ldF X hM rfl (by omega) (by omega) (by decide) dX2_smoothBack_51 ?_
  refine lv_lstore (lv' := [(15, .long (mF σ t (k + 1) 4)), (13, .long (mF σ t (k + 1) 3)), (11, .long (mF σ t (k + 1) 2)), (9, .long (mB σ t k 4)), (7, .long (mB σ t k 3)), (5, .long (mB σ t k 2)), (4, .ref (A.2.2.2.2.2 t (k + 1))), (3, .ref (A.2.2.2.1 t k)), (0, .ref (mo)), (1, .int (nI (t))), (2, .int (nI (k)))]) hx hb dX2_smoothBack_52 hl (by decide) rfl (fun ls hl => ?_)
  refine lv_lload hx hb dX2_smoothBack_54 (lv_at hl 2 rfl) ?_
  refine lv_lload hx hb dX2_smoothBack_56 (lv_at hl 0 rfl) ?_
  refine lv_lmul hx hb dX2_smoothBack_58 ?_
  refine lv_lload hx hb dX2_smoothBack_59 (lv_at hl 1 rfl) ?_
  refine lv_lload hx hb dX2_smoothBack_61 (lv_at hl 1 rfl) ?_
  refine lv_lmul hx hb dX2_smoothBack_63 ?_
  refine lv_lsub hx hb dX2_smoothBack_64 ?_
  refine lv_lstore (lv' := [(17, .long (((mF σ t (k + 1) 2) * (mF σ t (k + 1) 4)) - ((mF σ t (k + 1) 3) * (mF σ t (k + 1) 3)))), (15, .long (mF σ t (k + 1) 4)), (13, .long (mF σ t (k + 1) 3)), (11, .long (mF σ t (k + 1) 2)), (9, .long (mB σ t k 4)), (7, .long (mB σ t k 3)), (5, .long (mB σ t k 2)), (4, .ref (A.2.2.2.2.2 t (k + 1))), (3, .ref (A.2.2.2.1 t k)), (0, .ref (mo)), (1, .int (nI (t))), (2, .int (nI (k)))]) hx hb dX2_smoothBack_65 hl (by decide) rfl (fun ls hl => ?_)
  refine lv_aload_n hx hb dX2_smoothBack_67 rfl (lv_at hl 9 rfl) ?_
  refine mf41 X hM dX2_smoothBack_68 ?_
  refine lv_aload hx hb dX2_smoothBack_71 (lv_at hl 7 rfl) ?_
  refine lv_iconst (v := 0) hx hb dX2_smoothBack_73 (by decide) ?_
  refine m_ldF X hM rfl (by omega) (by omega) (by decide) dX2_smoothBack_74 ?_
  refine lv_lsub hx hb dX2_smoothBack_75 ?_
  refine lv_lstore (lv' := [(19, .long ((ml σ 41) - (mF σ t (k + 1) 0))), (17, .long (((mF σ t (k + 1) 2) * (mF σ t (k + 1) 4)) - ((mF σ t (k + 1) 3) * (mF σ t (k + 1) 3)))), (15, .long (mF σ t (k + 1) 4)), (13, .long (mF σ t (k + 1) 3)), (11, .long (mF σ t (k + 1) 2)), (9, .long (mB σ t k 4)), (7, .long (mB σ t k 3)), (5, .long (mB σ t k 2)), (4, .ref (A.2.2.2.2.2 t (k + 1))), (3, .ref (A.2.2.2.1 t k)), (0, .ref (mo)), (1, .int (nI (t))), (2, .int (nI (k)))]) hx hb dX2_smoothBack_76 hl (by decide) rfl (fun ls hl => ?_)
  refine lv_aload_n hx hb dX2_smoothBack_78 rfl (lv_at hl 10 rfl) ?_
  refine mf42 X hM dX2_smoothBack_79 ?_
  refine lv_aload hx hb dX2_smoothBack_82 (lv_at hl 8 rfl) ?_
  refine lv_iconst (v := 1) hx hb dX2_smoothBack_84 (by decide) ?_
  refine m_ldF X hM rfl (by omega) (by omega) (by decide) dX2_smoothBack_85 ?_
  refine lv_lsub hx hb dX2_smoothBack_86 ?_
  refine lv_lstore (lv' := [(21, .long ((ml σ 42) - (mF σ t (k + 1) 1))), (19, .long ((ml σ 41) - (mF σ t (k + 1) 0))), (17, .long (((mF σ t (k + 1) 2) * (mF σ t (k + 1) 4)) - ((mF σ t (k + 1) 3) * (mF σ t (k + 1) 3)))), (15, .long (mF σ t (k + 1) 4)), (13, .long (mF σ t (k + 1) 3)), (11, .long (mF σ t (k + 1) 2)), (9, .long (mB σ t k 4)), (7, .long (mB σ t k 3)), (5, .long (mB σ t k 2)), (4, .ref (A.2.2.2.2.2 t (k + 1))), (3, .ref (A.2.2.2.1 t k)), (0, .ref (mo)), (1, .int (nI (t))), (2, .int (nI (k)))]) hx hb dX2_smoothBack_87 hl (by decide) rfl (fun ls hl => ?_)
  refine lv_aload_n hx hb dX2_smoothBack_89 rfl (lv_at hl 11 rfl) ?_
  refine lv_aload_n hx hb dX2_smoothBack_90 rfl (lv_at hl 10 rfl) ?_
  refine lv_iconst (v := 0) hx hb dX2_smoothBack_91 (by decide) ?_
  refine m_ldB X hM rfl (by omega) (by omega) (by decide) dX2_smoothBack_92 ?_
  refine mp41 X hM hS (v := mB σ t k 0) dX2_smoothBack_93 (fun H locs hM hS => ?_)
  refine lv_aload_n hx hb dX2_smoothBack_96 rfl (lv_at hl 11 rfl) ?_
  refine lv_aload_n hx hb dX2_smoothBack_97 rfl (lv_at hl 10 rfl) ?_
  refine lv_iconst (v := 1) hx hb dX2_smoothBack_98 (by decide) ?_
  refine m_ldB X hM rfl (by omega) (by omega) (by decide) dX2_smoothBack_99 ?_
  refine W.eq (g2 := F0 m 100 ls [.long (mB σ t k 1), .ref (mo)]) rfl ?_
  refine mp42 X hM hS (v := mB σ t k 1) dX2_smoothBack_100 (fun H locs hM hS => ?_)
  refine lv_lload hx hb dX2_smoothBack_103 (lv_at hl 2 rfl) ?_
  refine lv_lconst (v := 0) hx hb dX2_smoothBack_105 rfl ?_
  refine g_lif_le hx hb 262 dX2_smoothBack_106 dX2_smoothBack_107 (by decide) (fun c_106 => ?_) (fun c_106 => ?_)
  · skip
    exact m_vret X hr hM hS rfl (by simp only [m_back]; rw [if_neg (Int64.not_lt.mpr c_106)]; simp [mB_sl]) (Nat.le_refl _) (Nat.le_refl _) dX2_smoothBack_262
  · skip
    have hd : ¬ mF σ t (k + 1) 2 * mF σ t (k + 1) 4 - mF σ t (k + 1) 3 * mF σ t (k + 1) 3 = 0 := fun z => absurd (z ▸ Int64.not_le.mp c_106) (by decide)
    refine lv_lload hx hb dX2_smoothBack_110 (lv_at hl 8 rfl) ?_
    refine lv_lload hx hb dX2_smoothBack_112 (lv_at hl 7 rfl) ?_
    refine lv_ladd hx hb dX2_smoothBack_114 ?_
    refine lv_lload hx hb dX2_smoothBack_115 (lv_at hl 3 rfl) ?_
    refine lv_lmul hx hb dX2_smoothBack_117 ?_
    refine lv_lload hx hb dX2_smoothBack_118 (lv_at hl 7 rfl) ?_
    refine lv_lload hx hb dX2_smoothBack_120 (lv_at hl 4 rfl) ?_
    refine lv_lmul hx hb dX2_smoothBack_122 ?_
    refine lv_lsub hx hb dX2_smoothBack_123 ?_
    refine lv_ldc2 (v := 4096) hx hb X.1.2.2.2.1 (X.1.2.2.2.2 _ q1631) dX2_smoothBack_124 ?_
    refine lv_lmul hx hb dX2_smoothBack_127 ?_
    refine lv_lload hx hb dX2_smoothBack_128 (lv_at hl 2 rfl) ?_
    refine m_callP X (met_J11_floorDiv l K (((((mB σ t k 2) + (mB σ t k 3)) * (mF σ t (k + 1) 4)) - ((mB σ t k 3) * (mF σ t (k + 1) 3))) * 4096) (((mF σ t (k + 1) 2) * (mF σ t (k + 1) 4)) - ((mF σ t (k + 1) 3) * (mF σ t (k + 1) 3))) hd) gp_J11_floorDiv rfl q1526 q977 q52 q978 hM hS hl ⟨Nat.le_of_ble_eq_true rfl, Nat.le_of_ble_eq_true rfl⟩ ⟨Nat.le_refl _, Nat.le_refl _⟩ (rest := []) (Nat.le_of_ble_eq_true rfl) rfl dX2_smoothBack_130 (fun H locs hM hS => ?_)
    refine W.eq (g2 := F0 m 133 ls [.long (l_fdiv (((((mB σ t k 2) + (mB σ t k 3)) * (mF σ t (k + 1) 4)) - ((mB σ t k 3) * (mF σ t (k + 1) 3))) * 4096) (((mF σ t (k + 1) 2) * (mF σ t (k + 1) 4)) - ((mF σ t (k + 1) 3) * (mF σ t (k + 1) 3))))]) rfl ?_
    refine lv_lstore (lv' := [(23, .long (l_fdiv (((((mB σ t k 2) + (mB σ t k 3)) * (mF σ t (k + 1) 4)) - ((mB σ t k 3) * (mF σ t (k + 1) 3))) * 4096) (((mF σ t (k + 1) 2) * (mF σ t (k + 1) 4)) - ((mF σ t (k + 1) 3) * (mF σ t (k + 1) 3))))), (21, .long ((ml σ 42) - (mF σ t (k + 1) 1))), (19, .long ((ml σ 41) - (mF σ t (k + 1) 0))), (17, .long (((mF σ t (k + 1) 2) * (mF σ t (k + 1) 4)) - ((mF σ t (k + 1) 3) * (mF σ t (k + 1) 3)))), (15, .long (mF σ t (k + 1) 4)), (13, .long (mF σ t (k + 1) 3)), (11, .long (mF σ t (k + 1) 2)), (9, .long (mB σ t k 4)), (7, .long (mB σ t k 3)), (5, .long (mB σ t k 2)), (4, .ref (A.2.2.2.2.2 t (k + 1))), (3, .ref (A.2.2.2.1 t k)), (0, .ref (mo)), (1, .int (nI (t))), (2, .int (nI (k)))]) hx hb dX2_smoothBack_133 hl (by decide) rfl (fun ls hl => ?_)
    refine lv_lload hx hb dX2_smoothBack_135 (lv_at hl 8 rfl) ?_
    refine lv_lload hx hb dX2_smoothBack_137 (lv_at hl 6 rfl) ?_
    refine lv_lmul hx hb dX2_smoothBack_139 ?_
    refine lv_lload hx hb dX2_smoothBack_140 (lv_at hl 9 rfl) ?_
    refine lv_lload hx hb dX2_smoothBack_142 (lv_at hl 8 rfl) ?_
    refine lv_ladd hx hb dX2_smoothBack_144 ?_
    refine lv_lload hx hb dX2_smoothBack_145 (lv_at hl 5 rfl) ?_
    refine lv_lmul hx hb dX2_smoothBack_147 ?_
    refine lv_lsub hx hb dX2_smoothBack_148 ?_
    refine lv_ldc2 (v := 4096) hx hb X.1.2.2.2.1 (X.1.2.2.2.2 _ q1631) dX2_smoothBack_149 ?_
    refine lv_lmul hx hb dX2_smoothBack_152 ?_
    refine lv_lload hx hb dX2_smoothBack_153 (lv_at hl 3 rfl) ?_
    refine m_callP X (met_J11_floorDiv l K ((((mB σ t k 3) * (mF σ t (k + 1) 2)) - (((mB σ t k 2) + (mB σ t k 3)) * (mF σ t (k + 1) 3))) * 4096) (((mF σ t (k + 1) 2) * (mF σ t (k + 1) 4)) - ((mF σ t (k + 1) 3) * (mF σ t (k + 1) 3))) hd) gp_J11_floorDiv rfl q1526 q977 q52 q978 hM hS hl ⟨Nat.le_of_ble_eq_true rfl, Nat.le_of_ble_eq_true rfl⟩ ⟨Nat.le_refl _, Nat.le_refl _⟩ (rest := []) (Nat.le_of_ble_eq_true rfl) rfl dX2_smoothBack_155 (fun H locs hM hS => ?_)
    refine W.eq (g2 := F0 m 158 ls [.long (l_fdiv ((((mB σ t k 3) * (mF σ t (k + 1) 2)) - (((mB σ t k 2) + (mB σ t k 3)) * (mF σ t (k + 1) 3))) * 4096) (((mF σ t (k + 1) 2) * (mF σ t (k + 1) 4)) - ((mF σ t (k + 1) 3) * (mF σ t (k + 1) 3))))]) rfl ?_
    refine lv_lstore (lv' := [(25, .long (l_fdiv ((((mB σ t k 3) * (mF σ t (k + 1) 2)) - (((mB σ t k 2) + (mB σ t k 3)) * (mF σ t (k + 1) 3))) * 4096) (((mF σ t (k + 1) 2) * (mF σ t (k + 1) 4)) - ((mF σ t (k + 1) 3) * (mF σ t (k + 1) 3))))), (23, .long (l_fdiv (((((mB σ t k 2) + (mB σ t k 3)) * (mF σ t (k + 1) 4)) - ((mB σ t k 3) * (mF σ t (k + 1) 3))) * 4096) (((mF σ t (k + 1) 2) * (mF σ t (k + 1) 4)) - ((mF σ t (k + 1) 3) * (mF σ t (k + 1) 3))))), (21, .long ((ml σ 42) - (mF σ t (k + 1) 1))), (19, .long ((ml σ 41) - (mF σ t (k + 1) 0))), (17, .long (((mF σ t (k + 1) 2) * (mF σ t (k + 1) 4)) - ((mF σ t (k + 1) 3) * (mF σ t (k + 1) 3)))), (15, .long (mF σ t (k + 1) 4)), (13, .long (mF σ t (k + 1) 3)), (11, .long (mF σ t (k + 1) 2)), (9, .long (mB σ t k 4)), (7, .long (mB σ t k 3)), (5, .long (mB σ t k 2)), (4, .ref (A.2.2.2.2.2 t (k + 1))), (3, .ref (A.2.2.2.1 t k)), (0, .ref (mo)), (1, .int (nI (t))), (2, .int (nI (k)))]) hx hb dX2_smoothBack_158 hl (by decide) rfl (fun ls hl => ?_)
    refine lv_lload hx hb dX2_smoothBack_160 (lv_at hl 9 rfl) ?_
    refine lv_lload hx hb dX2_smoothBack_162 (lv_at hl 8 rfl) ?_
    refine lv_ladd hx hb dX2_smoothBack_164 ?_
    refine lv_lload hx hb dX2_smoothBack_165 (lv_at hl 5 rfl) ?_
    refine lv_lmul hx hb dX2_smoothBack_167 ?_
    refine lv_lload hx hb dX2_smoothBack_168 (lv_at hl 8 rfl) ?_
    refine lv_lload hx hb dX2_smoothBack_170 (lv_at hl 6 rfl) ?_
    refine lv_lmul hx hb dX2_smoothBack_172 ?_
    refine lv_lsub hx hb dX2_smoothBack_173 ?_
    refine lv_ldc2 (v := 4096) hx hb X.1.2.2.2.1 (X.1.2.2.2.2 _ q1631) dX2_smoothBack_174 ?_
    refine lv_lmul hx hb dX2_smoothBack_177 ?_
    refine lv_lload hx hb dX2_smoothBack_178 (lv_at hl 4 rfl) ?_
    refine m_callP X (met_J11_floorDiv l K (((((mB σ t k 3) + (mB σ t k 4)) * (mF σ t (k + 1) 4)) - ((mB σ t k 4) * (mF σ t (k + 1) 3))) * 4096) (((mF σ t (k + 1) 2) * (mF σ t (k + 1) 4)) - ((mF σ t (k + 1) 3) * (mF σ t (k + 1) 3))) hd) gp_J11_floorDiv rfl q1526 q977 q52 q978 hM hS hl ⟨Nat.le_of_ble_eq_true rfl, Nat.le_of_ble_eq_true rfl⟩ ⟨Nat.le_refl _, Nat.le_refl _⟩ (rest := []) (Nat.le_of_ble_eq_true rfl) rfl dX2_smoothBack_180 (fun H locs hM hS => ?_)
    refine W.eq (g2 := F0 m 183 ls [.long (l_fdiv (((((mB σ t k 3) + (mB σ t k 4)) * (mF σ t (k + 1) 4)) - ((mB σ t k 4) * (mF σ t (k + 1) 3))) * 4096) (((mF σ t (k + 1) 2) * (mF σ t (k + 1) 4)) - ((mF σ t (k + 1) 3) * (mF σ t (k + 1) 3))))]) rfl ?_
    refine lv_lstore (lv' := [(27, .long (l_fdiv (((((mB σ t k 3) + (mB σ t k 4)) * (mF σ t (k + 1) 4)) - ((mB σ t k 4) * (mF σ t (k + 1) 3))) * 4096) (((mF σ t (k + 1) 2) * (mF σ t (k + 1) 4)) - ((mF σ t (k + 1) 3) * (mF σ t (k + 1) 3))))), (25, .long (l_fdiv ((((mB σ t k 3) * (mF σ t (k + 1) 2)) - (((mB σ t k 2) + (mB σ t k 3)) * (mF σ t (k + 1) 3))) * 4096) (((mF σ t (k + 1) 2) * (mF σ t (k + 1) 4)) - ((mF σ t (k + 1) 3) * (mF σ t (k + 1) 3))))), (23, .long (l_fdiv (((((mB σ t k 2) + (mB σ t k 3)) * (mF σ t (k + 1) 4)) - ((mB σ t k 3) * (mF σ t (k + 1) 3))) * 4096) (((mF σ t (k + 1) 2) * (mF σ t (k + 1) 4)) - ((mF σ t (k + 1) 3) * (mF σ t (k + 1) 3))))), (21, .long ((ml σ 42) - (mF σ t (k + 1) 1))), (19, .long ((ml σ 41) - (mF σ t (k + 1) 0))), (17, .long (((mF σ t (k + 1) 2) * (mF σ t (k + 1) 4)) - ((mF σ t (k + 1) 3) * (mF σ t (k + 1) 3)))), (15, .long (mF σ t (k + 1) 4)), (13, .long (mF σ t (k + 1) 3)), (11, .long (mF σ t (k + 1) 2)), (9, .long (mB σ t k 4)), (7, .long (mB σ t k 3)), (5, .long (mB σ t k 2)), (4, .ref (A.2.2.2.2.2 t (k + 1))), (3, .ref (A.2.2.2.1 t k)), (0, .ref (mo)), (1, .int (nI (t))), (2, .int (nI (k)))]) hx hb dX2_smoothBack_183 hl (by decide) rfl (fun ls hl => ?_)
    refine lv_lload hx hb dX2_smoothBack_185 (lv_at hl 9 rfl) ?_
    refine lv_lload hx hb dX2_smoothBack_187 (lv_at hl 8 rfl) ?_
    refine lv_lmul hx hb dX2_smoothBack_189 ?_
    refine lv_lload hx hb dX2_smoothBack_190 (lv_at hl 10 rfl) ?_
    refine lv_lload hx hb dX2_smoothBack_192 (lv_at hl 9 rfl) ?_
    refine lv_ladd hx hb dX2_smoothBack_194 ?_
    refine lv_lload hx hb dX2_smoothBack_195 (lv_at hl 7 rfl) ?_
    refine lv_lmul hx hb dX2_smoothBack_197 ?_
    refine lv_lsub hx hb dX2_smoothBack_198 ?_
    refine lv_ldc2 (v := 4096) hx hb X.1.2.2.2.1 (X.1.2.2.2.2 _ q1631) dX2_smoothBack_199 ?_
    refine lv_lmul hx hb dX2_smoothBack_202 ?_
    refine lv_lload hx hb dX2_smoothBack_203 (lv_at hl 5 rfl) ?_
    refine m_callP X (met_J11_floorDiv l K ((((mB σ t k 4) * (mF σ t (k + 1) 2)) - (((mB σ t k 3) + (mB σ t k 4)) * (mF σ t (k + 1) 3))) * 4096) (((mF σ t (k + 1) 2) * (mF σ t (k + 1) 4)) - ((mF σ t (k + 1) 3) * (mF σ t (k + 1) 3))) hd) gp_J11_floorDiv rfl q1526 q977 q52 q978 hM hS hl ⟨Nat.le_of_ble_eq_true rfl, Nat.le_of_ble_eq_true rfl⟩ ⟨Nat.le_refl _, Nat.le_refl _⟩ (rest := []) (Nat.le_of_ble_eq_true rfl) rfl dX2_smoothBack_205 (fun H locs hM hS => ?_)
    refine W.eq (g2 := F0 m 208 ls [.long (l_fdiv ((((mB σ t k 4) * (mF σ t (k + 1) 2)) - (((mB σ t k 3) + (mB σ t k 4)) * (mF σ t (k + 1) 3))) * 4096) (((mF σ t (k + 1) 2) * (mF σ t (k + 1) 4)) - ((mF σ t (k + 1) 3) * (mF σ t (k + 1) 3))))]) rfl ?_
    refine lv_lstore (lv' := [(29, .long (l_fdiv ((((mB σ t k 4) * (mF σ t (k + 1) 2)) - (((mB σ t k 3) + (mB σ t k 4)) * (mF σ t (k + 1) 3))) * 4096) (((mF σ t (k + 1) 2) * (mF σ t (k + 1) 4)) - ((mF σ t (k + 1) 3) * (mF σ t (k + 1) 3))))), (27, .long (l_fdiv (((((mB σ t k 3) + (mB σ t k 4)) * (mF σ t (k + 1) 4)) - ((mB σ t k 4) * (mF σ t (k + 1) 3))) * 4096) (((mF σ t (k + 1) 2) * (mF σ t (k + 1) 4)) - ((mF σ t (k + 1) 3) * (mF σ t (k + 1) 3))))), (25, .long (l_fdiv ((((mB σ t k 3) * (mF σ t (k + 1) 2)) - (((mB σ t k 2) + (mB σ t k 3)) * (mF σ t (k + 1) 3))) * 4096) (((mF σ t (k + 1) 2) * (mF σ t (k + 1) 4)) - ((mF σ t (k + 1) 3) * (mF σ t (k + 1) 3))))), (23, .long (l_fdiv (((((mB σ t k 2) + (mB σ t k 3)) * (mF σ t (k + 1) 4)) - ((mB σ t k 3) * (mF σ t (k + 1) 3))) * 4096) (((mF σ t (k + 1) 2) * (mF σ t (k + 1) 4)) - ((mF σ t (k + 1) 3) * (mF σ t (k + 1) 3))))), (21, .long ((ml σ 42) - (mF σ t (k + 1) 1))), (19, .long ((ml σ 41) - (mF σ t (k + 1) 0))), (17, .long (((mF σ t (k + 1) 2) * (mF σ t (k + 1) 4)) - ((mF σ t (k + 1) 3) * (mF σ t (k + 1) 3)))), (15, .long (mF σ t (k + 1) 4)), (13, .long (mF σ t (k + 1) 3)), (11, .long (mF σ t (k + 1) 2)), (9, .long (mB σ t k 4)), (7, .long (mB σ t k 3)), (5, .long (mB σ t k 2)), (4, .ref (A.2.2.2.2.2 t (k + 1))), (3, .ref (A.2.2.2.1 t k)), (0, .ref (mo)), (1, .int (nI (t))), (2, .int (nI (k)))]) hx hb dX2_smoothBack_208 hl (by decide) rfl (fun ls hl => ?_)
    refine lv_aload_n hx hb dX2_smoothBack_210 rfl (lv_at hl 15 rfl) ?_
    refine lv_dup hx hb dX2_smoothBack_211 rfl ?_
    refine mf41 X hM dX2_smoothBack_212 ?_
    refine g_topL (z := mB σ t k 0) (by simp [ml_sl]) ?_
    refine lv_lload hx hb dX2_smoothBack_215 (lv_at hl 3 rfl) ?_
    refine lv_lload hx hb dX2_smoothBack_217 (lv_at hl 5 rfl) ?_
    refine lv_lmul hx hb dX2_smoothBack_219 ?_
    refine lv_lload hx hb dX2_smoothBack_220 (lv_at hl 2 rfl) ?_
    refine lv_lload hx hb dX2_smoothBack_222 (lv_at hl 4 rfl) ?_
    refine lv_lmul hx hb dX2_smoothBack_224 ?_
    refine lv_ladd hx hb dX2_smoothBack_225 ?_
    refine lv_ldc2 (v := 4096) hx hb X.1.2.2.2.1 (X.1.2.2.2.2 _ q1631) dX2_smoothBack_226 ?_
    refine m_callP X (met_J11_floorDiv l K (((l_fdiv (((((mB σ t k 2) + (mB σ t k 3)) * (mF σ t (k + 1) 4)) - ((mB σ t k 3) * (mF σ t (k + 1) 3))) * 4096) (((mF σ t (k + 1) 2) * (mF σ t (k + 1) 4)) - ((mF σ t (k + 1) 3) * (mF σ t (k + 1) 3)))) * ((ml σ 41) - (mF σ t (k + 1) 0))) + ((l_fdiv ((((mB σ t k 3) * (mF σ t (k + 1) 2)) - (((mB σ t k 2) + (mB σ t k 3)) * (mF σ t (k + 1) 3))) * 4096) (((mF σ t (k + 1) 2) * (mF σ t (k + 1) 4)) - ((mF σ t (k + 1) 3) * (mF σ t (k + 1) 3)))) * ((ml σ 42) - (mF σ t (k + 1) 1)))) (4096) (by decide)) gp_J11_floorDiv rfl q1526 q977 q52 q978 hM hS hl ⟨Nat.le_of_ble_eq_true rfl, Nat.le_of_ble_eq_true rfl⟩ ⟨Nat.le_refl _, Nat.le_refl _⟩ (rest := [.long (mB σ t k 0), .ref (mo)]) (Nat.le_of_ble_eq_true rfl) rfl dX2_smoothBack_229 (fun H locs hM hS => ?_)
    refine W.eq (g2 := F0 m 232 ls [.long (l_fdiv (((l_fdiv (((((mB σ t k 2) + (mB σ t k 3)) * (mF σ t (k + 1) 4)) - ((mB σ t k 3) * (mF σ t (k + 1) 3))) * 4096) (((mF σ t (k + 1) 2) * (mF σ t (k + 1) 4)) - ((mF σ t (k + 1) 3) * (mF σ t (k + 1) 3)))) * ((ml σ 41) - (mF σ t (k + 1) 0))) + ((l_fdiv ((((mB σ t k 3) * (mF σ t (k + 1) 2)) - (((mB σ t k 2) + (mB σ t k 3)) * (mF σ t (k + 1) 3))) * 4096) (((mF σ t (k + 1) 2) * (mF σ t (k + 1) 4)) - ((mF σ t (k + 1) 3) * (mF σ t (k + 1) 3)))) * ((ml σ 42) - (mF σ t (k + 1) 1)))) 4096), .long (mB σ t k 0), .ref (mo)]) rfl ?_
    refine lv_ladd hx hb dX2_smoothBack_232 ?_
    refine mp41 X hM hS (v := (mB σ t k 0) + (l_fdiv (((l_fdiv (((((mB σ t k 2) + (mB σ t k 3)) * (mF σ t (k + 1) 4)) - ((mB σ t k 3) * (mF σ t (k + 1) 3))) * 4096) (((mF σ t (k + 1) 2) * (mF σ t (k + 1) 4)) - ((mF σ t (k + 1) 3) * (mF σ t (k + 1) 3)))) * ((ml σ 41) - (mF σ t (k + 1) 0))) + ((l_fdiv ((((mB σ t k 3) * (mF σ t (k + 1) 2)) - (((mB σ t k 2) + (mB σ t k 3)) * (mF σ t (k + 1) 3))) * 4096) (((mF σ t (k + 1) 2) * (mF σ t (k + 1) 4)) - ((mF σ t (k + 1) 3) * (mF σ t (k + 1) 3)))) * ((ml σ 42) - (mF σ t (k + 1) 1)))) 4096)) dX2_smoothBack_233 (fun H locs hM hS => ?_)
    refine lv_aload_n hx hb dX2_smoothBack_236 rfl (lv_at hl 15 rfl) ?_
    refine lv_dup hx hb dX2_smoothBack_237 rfl ?_
    refine mf42 X hM dX2_smoothBack_238 ?_
    refine g_topL (z := mB σ t k 1) (by simp [ml_sl]) ?_
    refine lv_lload hx hb dX2_smoothBack_241 (lv_at hl 1 rfl) ?_
    refine lv_lload hx hb dX2_smoothBack_243 (lv_at hl 5 rfl) ?_
    refine lv_lmul hx hb dX2_smoothBack_245 ?_
    refine lv_lload hx hb dX2_smoothBack_246 (lv_at hl 0 rfl) ?_
    refine lv_lload hx hb dX2_smoothBack_248 (lv_at hl 4 rfl) ?_
    refine lv_lmul hx hb dX2_smoothBack_250 ?_
    refine lv_ladd hx hb dX2_smoothBack_251 ?_
    refine lv_ldc2 (v := 4096) hx hb X.1.2.2.2.1 (X.1.2.2.2.2 _ q1631) dX2_smoothBack_252 ?_
    refine m_callP X (met_J11_floorDiv l K (((l_fdiv (((((mB σ t k 3) + (mB σ t k 4)) * (mF σ t (k + 1) 4)) - ((mB σ t k 4) * (mF σ t (k + 1) 3))) * 4096) (((mF σ t (k + 1) 2) * (mF σ t (k + 1) 4)) - ((mF σ t (k + 1) 3) * (mF σ t (k + 1) 3)))) * ((ml σ 41) - (mF σ t (k + 1) 0))) + ((l_fdiv ((((mB σ t k 4) * (mF σ t (k + 1) 2)) - (((mB σ t k 3) + (mB σ t k 4)) * (mF σ t (k + 1) 3))) * 4096) (((mF σ t (k + 1) 2) * (mF σ t (k + 1) 4)) - ((mF σ t (k + 1) 3) * (mF σ t (k + 1) 3)))) * ((ml σ 42) - (mF σ t (k + 1) 1)))) (4096) (by decide)) gp_J11_floorDiv rfl q1526 q977 q52 q978 hM hS hl ⟨Nat.le_of_ble_eq_true rfl, Nat.le_of_ble_eq_true rfl⟩ ⟨Nat.le_refl _, Nat.le_refl _⟩ (rest := [.long (mB σ t k 1), .ref (mo)]) (Nat.le_of_ble_eq_true rfl) rfl dX2_smoothBack_255 (fun H locs hM hS => ?_)
    refine W.eq (g2 := F0 m 258 ls [.long (l_fdiv (((l_fdiv (((((mB σ t k 3) + (mB σ t k 4)) * (mF σ t (k + 1) 4)) - ((mB σ t k 4) * (mF σ t (k + 1) 3))) * 4096) (((mF σ t (k + 1) 2) * (mF σ t (k + 1) 4)) - ((mF σ t (k + 1) 3) * (mF σ t (k + 1) 3)))) * ((ml σ 41) - (mF σ t (k + 1) 0))) + ((l_fdiv ((((mB σ t k 4) * (mF σ t (k + 1) 2)) - (((mB σ t k 3) + (mB σ t k 4)) * (mF σ t (k + 1) 3))) * 4096) (((mF σ t (k + 1) 2) * (mF σ t (k + 1) 4)) - ((mF σ t (k + 1) 3) * (mF σ t (k + 1) 3)))) * ((ml σ 42) - (mF σ t (k + 1) 1)))) 4096), .long (mB σ t k 1), .ref (mo)]) rfl ?_
    refine lv_ladd hx hb dX2_smoothBack_258 ?_
    refine mp42 X hM hS (v := (mB σ t k 1) + (l_fdiv (((l_fdiv (((((mB σ t k 3) + (mB σ t k 4)) * (mF σ t (k + 1) 4)) - ((mB σ t k 4) * (mF σ t (k + 1) 3))) * 4096) (((mF σ t (k + 1) 2) * (mF σ t (k + 1) 4)) - ((mF σ t (k + 1) 3) * (mF σ t (k + 1) 3)))) * ((ml σ 41) - (mF σ t (k + 1) 0))) + ((l_fdiv ((((mB σ t k 4) * (mF σ t (k + 1) 2)) - (((mB σ t k 3) + (mB σ t k 4)) * (mF σ t (k + 1) 3))) * 4096) (((mF σ t (k + 1) 2) * (mF σ t (k + 1) 4)) - ((mF σ t (k + 1) 3) * (mF σ t (k + 1) 3)))) * ((ml σ 42) - (mF σ t (k + 1) 1)))) 4096)) dX2_smoothBack_259 (fun H locs hM hS => ?_)
    exact m_vret X hr hM hS rfl (by simp only [m_back]; rw [if_pos (Int64.not_le.mp c_106)]; simp [ml_sl, mB_sl]) (Nat.le_refl _) (Nat.le_refl _) dX2_smoothBack_262
set_option maxHeartbeats 4000000 in
set_option maxRecDepth 100000 in
/-- smooth -/
theorem met_X2_smooth (l : Launch) (K : gK) (mo : Nat) (A : mA) (σ : mS) (t b : Nat) (ht : t < 40) (hb0 : b ≤ mb σ 21 t) (he : mb σ 21 t < 64) : mMet l K mo A yX2_smooth cX2_smooth 4 (none) 2 107 [.int (nI (t)), .int (nI (b))] σ (none) (m_smooth σ t b) := by
  intro G hR0
  refine gMet.of (by decide) (Nat.le_of_ble_eq_true rfl) (fun p e s m below meth c ls hx hb X hr hin hG hS hl => ?_)
  have X : gC K p s m _ meth c cX2_smooth 4 "KalmanQuayModel" := X
  have hM := mPre hR0 hG
  have hl : lv_has ls 4 [(0, .ref (mo)), (1, .int (nI (t))), (2, .int (nI (b)))] := hl
  refine lv_aload_n hx hb dX2_smooth_0 rfl (lv_at hl 0 rfl) ?_
  refine lv_aload_n hx hb dX2_smooth_1 rfl (lv_at hl 0 rfl) ?_
  refine mf26 X hM dX2_smooth_2 ?_
  refine lv_iload_n hx hb dX2_smooth_5 rfl (lv_at hl 1 rfl) ?_
  refine m_aaB1 X hM rfl (by omega) dX2_smooth_6 ?_
  refine lv_aload_n hx hb dX2_smooth_7 rfl (lv_at hl 0 rfl) ?_
  refine mf21 X hM dX2_smooth_8 ?_
  refine lv_iload_n hx hb dX2_smooth_11 rfl (lv_at hl 1 rfl) ?_
  refine m_ldb X hM 21 40 rfl rfl (by omega) (by decide) dX2_smooth_12 ?_
  refine m_aaB2 X hM rfl (by omega) (by omega) dX2_smooth_13 ?_
  refine lv_iconst (v := 0) hx hb dX2_smooth_14 (by decide) ?_
  refine m_ldB X hM rfl (by omega) (by omega) (by decide) dX2_smooth_15 ?_
  refine mp41 X hM hS (v := mB σ t (mb σ 21 t) 0) dX2_smooth_16 (fun H locs hM hS => ?_)
  refine lv_aload_n hx hb dX2_smooth_19 rfl (lv_at hl 0 rfl) ?_
  refine lv_aload_n hx hb dX2_smooth_20 rfl (lv_at hl 0 rfl) ?_
  refine mf26 X hM dX2_smooth_21 ?_
  refine lv_iload_n hx hb dX2_smooth_24 rfl (lv_at hl 1 rfl) ?_
  refine m_aaB1 X hM rfl (by omega) dX2_smooth_25 ?_
  refine lv_aload_n hx hb dX2_smooth_26 rfl (lv_at hl 0 rfl) ?_
  refine mf21 X hM dX2_smooth_27 ?_
  refine lv_iload_n hx hb dX2_smooth_30 rfl (lv_at hl 1 rfl) ?_
  refine m_ldb X hM 21 40 rfl rfl (by omega) (by decide) dX2_smooth_31 ?_
  refine g_topE (z := nI (mb σ 21 t)) (by simp [mb_sl]) ?_
  refine m_aaB2 X hM rfl (by omega) (by omega) dX2_smooth_32 ?_
  refine lv_iconst (v := 1) hx hb dX2_smooth_33 (by decide) ?_
  refine m_ldB X hM rfl (by omega) (by omega) (by decide) dX2_smooth_34 ?_
  refine W.eq (g2 := F0 m 35 ls [.long (mB σ t (mb σ 21 t) 1), .ref (mo)]) rfl ?_
  refine mp42 X hM hS (v := mB σ t (mb σ 21 t) 1) dX2_smooth_35 (fun H locs hM hS => ?_)
  refine lv_aload_n hx hb dX2_smooth_38 rfl (lv_at hl 0 rfl) ?_
  refine mf21 X hM dX2_smooth_39 ?_
  refine lv_iload_n hx hb dX2_smooth_42 rfl (lv_at hl 1 rfl) ?_
  refine m_ldb X hM 21 40 rfl rfl (by omega) (by decide) dX2_smooth_43 ?_
  refine g_topE (z := nI (mb σ 21 t)) (by simp [mb_sl]) ?_
  refine lv_iconst (v := 1) hx hb dX2_smooth_44 (by decide) ?_
  refine lv_isub hx hb dX2_smooth_45 ?_
  refine lv_istore_n (lv' := [(3, .int ((nI (mb σ 21 t)) - 1)), (0, .ref (mo)), (1, .int (nI (t))), (2, .int (nI (b)))]) hx hb dX2_smooth_46 rfl hl (by decide) rfl (fun ls hl => ?_)
  have loop : ∀ (n j : Nat) (H : Heap) (locs : List Loc) (ls : Array Slot), j + n = mb σ 21 t - b → mH K mo A (m_for (fun j τ => m_back τ t (mb σ 21 t - 1 - j)) j (sl (sl σ 41 (mB σ t (mb σ 21 t) 0)) 42 (mB σ t (mb σ 21 t) 1))) G H → va_S (gA K) s.heap H locs → lv_has ls 4 [(3, .int (nI (mb σ 21 t - j) - 1)), (0, .ref (mo)), (1, .int (nI (t))), (2, .int (nI (b)))] → W p l e ({ frames := 2, cells := 0, slots := 0, locals := 107 } : Room) s m ([.ref (mo), .int (nI (t)), .int (nI (b))] : List Value).toArray below meth c H locs 0 0 (MQ below (gQ K (fun w G1 => w = (none) ∧ mR K mo A (m_smooth σ t b) G1 ∧ gF mT G G1)) ([.ref (mo), .int (nI (t)), .int (nI (b))] : List Value).toArray s 0 0 (gA K)) (F0 m 47 ls []) := by
    intro n
    induction n with
    | zero =>
      intro j H locs ls hi hM hS hl
      have hj : mb σ 21 t - j = b := by omega
      rw [hj] at hl
      refine lv_iload_n hx hb dX2_smooth_47 rfl (lv_at hl 0 rfl) ?_
      refine lv_iload_n hx hb dX2_smooth_48 rfl (lv_at hl 3 rfl) ?_
      refine lv_icmp_lt (tgt := 64) hx hb dX2_smooth_49 (by decide) (fun c_49 => ?_) (fun c_49 => ?_)
      · skip
        exact m_vret X hr hM hS rfl (by simp only [m_smooth]; rw [show j = mb σ 21 t - b by omega]) (Nat.le_refl _) (Nat.le_refl _) dX2_smooth_64
      · skip
        exact absurd (n_lt1 (by omega)) c_49
    | succ n ih =>
      intro j H locs ls hi hM hS hl
      have hj : j < mb σ 21 t := by omega
      rw [n_sub1 hj] at hl
      refine lv_iload_n hx hb dX2_smooth_47 rfl (lv_at hl 0 rfl) ?_
      refine lv_iload_n hx hb dX2_smooth_48 rfl (lv_at hl 3 rfl) ?_
      refine g_icmp_lt hx hb 64 dX2_smooth_49 (by decide) (a := mb σ 21 t - 1 - j) (b := b) rfl rfl (by omega) (by omega) (fun c_49 => ?_) (fun c_49 => ?_)
      · skip
        exact absurd c_49 (by omega)
      · skip
        refine lv_aload_n hx hb dX2_smooth_52 rfl (lv_at hl 1 rfl) ?_
        refine lv_iload_n hx hb dX2_smooth_53 rfl (lv_at hl 2 rfl) ?_
        refine lv_iload_n hx hb dX2_smooth_54 rfl (lv_at hl 0 rfl) ?_
        refine m_call X (met_X2_smoothBack l K mo A (m_for (fun j τ => m_back τ t (mb σ 21 t - 1 - j)) j (sl (sl σ 41 (mB σ t (mb σ 21 t) 0)) 42 (mB σ t (mb σ 21 t) 1))) (t) (mb σ 21 t - 1 - j) (by omega) (by omega)) gp_X2_smoothBack rfl q1627 q1629 qs33 q42 q1630 hM hS hl ⟨Nat.le_of_ble_eq_true rfl, Nat.le_of_ble_eq_true rfl⟩ ⟨Nat.le_refl _, Nat.le_refl _⟩ (rest := []) (Nat.le_of_ble_eq_true rfl) rfl dX2_smooth_55 (fun H locs hM hS => ?_)
        refine W.eq (g2 := F0 m 58 ls []) rfl ?_
        refine lv_iinc (v := nI (mb σ 21 t - (j + 1)) - 1) (lv' := [(3, .int (nI (mb σ 21 t - (j + 1)) - 1)), (0, .ref (mo)), (1, .int (nI (t))), (2, .int (nI (b)))]) hx hb dX2_smooth_58 hl (k := 0) rfl (n_dec hj) (by decide) rfl (fun ls hl => ?_)
        refine lv_goto (tgt := 47) hx hb dX2_smooth_61 (by decide) ?_
        exact ih (j + 1) H locs ls (by omega) hM hS (lv_sub hl [0, 1, 2, 3] rfl)
  exact loop (mb σ 21 t - b) 0 _ _ ls (by omega) hM hS (lv_sub hl [0, 1, 2, 3] rfl)
def m_smAt (σ : mS) (t b : Int32) : mS := if m_bt σ t b = true then m_smooth (m_first σ true) t.toNatClampNeg b.toNatClampNeg else m_first σ false
set_option maxHeartbeats 4000000 in
set_option maxRecDepth 100000 in
/-- smoothedAt -/
theorem met_X2_smoothedAt (l : Launch) (K : gK) (mo : Nat) (A : mA) (σ : mS) (t b : Int32) (h15 : mn σ 15 ≤ 40) (hE : ∀ t, t < mn σ 15 → mb σ 20 t ≤ mb σ 21 t ∧ mb σ 21 t < 64) : mMet l K mo A yX2_smoothedAt cX2_smoothedAt 3 (some .long) 3 146 [.int (t), .int (b)] σ (some (.long (if m_bt σ t b = true then ml (m_smooth (m_first σ true) t.toNatClampNeg b.toNatClampNeg) 41 else 0))) (m_smAt σ t b) := by
  intro G hR0
  refine gMet.of (by decide) (Nat.le_of_ble_eq_true rfl) (fun p e s m below meth c ls hx hb X hr hin hG hS hl => ?_)
  have X : gC K p s m _ meth c cX2_smoothedAt 3 "KalmanQuayModel" := X
  have hM := mPre hR0 hG
  have hl : lv_has ls 3 [(0, .ref (mo)), (1, .int (t)), (2, .int (b))] := hl
  refine lv_aload_n hx hb dX2_smoothedAt_0 rfl (lv_at hl 0 rfl) ?_
  refine lv_iload_n hx hb dX2_smoothedAt_1 rfl (lv_at hl 1 rfl) ?_
  refine lv_iload_n hx hb dX2_smoothedAt_2 rfl (lv_at hl 2 rfl) ?_
  refine m_call X (met_X2_claimBeat l K mo A σ (t) (b) h15 hE) gp_X2_claimBeat rfl q1611 q1613 qs31 q42 q1614 hM hS hl ⟨Nat.le_of_ble_eq_true rfl, Nat.le_of_ble_eq_true rfl⟩ ⟨Nat.le_refl _, Nat.le_refl _⟩ (rest := []) (Nat.le_of_ble_eq_true rfl) rfl dX2_smoothedAt_3 (fun H locs hM hS => ?_)
  refine W.eq (g2 := F0 m 6 ls [.int (gb (m_bt σ t b))]) rfl ?_
  refine g_ifb_ne hx hb 11 dX2_smoothedAt_6 (by decide) (fun c_6 => ?_) (fun c_6 => ?_)
  · skip
    rw [c_6] at hM
    obtain ⟨c_a, c_b⟩ := Bool.and_eq_true_iff.mp (show (m_tr σ t && m_in b (nI (mb σ 20 t.toNatClampNeg)) (nI (mb σ 21 t.toNatClampNeg))) = true from c_6)
    obtain ⟨ht1, ht2⟩ := in_rng (n := mn σ 15) (by omega) c_a
    have hE2 := hE _ ht2
    obtain ⟨hb1, hb2, hb3⟩ := in_rng2 (by omega) (by omega) c_b
    rw [ht1, hb1] at hl
    refine lv_aload_n hx hb dX2_smoothedAt_11 rfl (lv_at hl 0 rfl) ?_
    refine lv_iload_n hx hb dX2_smoothedAt_12 rfl (lv_at hl 1 rfl) ?_
    refine lv_iload_n hx hb dX2_smoothedAt_13 rfl (lv_at hl 2 rfl) ?_
    refine m_call X (met_X2_smooth l K mo A (m_first σ true) (t.toNatClampNeg) (b.toNatClampNeg) (by omega) (by simpa [mb_m_first] using hb3) (by simpa [mb_m_first] using hE2.2)) gp_X2_smooth rfl q1623 q1625 qs32 q42 q1626 hM hS hl ⟨Nat.le_of_ble_eq_true rfl, Nat.le_of_ble_eq_true rfl⟩ ⟨Nat.le_refl _, Nat.le_refl _⟩ (rest := []) (Nat.le_of_ble_eq_true rfl) rfl dX2_smoothedAt_14 (fun H locs hM hS => ?_)
    refine W.eq (g2 := F0 m 17 ls []) rfl ?_
    refine lv_aload_n hx hb dX2_smoothedAt_17 rfl (lv_at hl 0 rfl) ?_
    refine mf41 X hM dX2_smoothedAt_18 ?_
    exact m_lret X hr hM hS (by simp [c_6]) (by simp [m_smAt, c_6]) (Nat.le_refl _) (Nat.le_refl _) dX2_smoothedAt_21
  · skip
    rw [c_6] at hM
    refine lv_lconst (v := 0) hx hb dX2_smoothedAt_9 rfl ?_
    exact m_lret X hr hM hS (by simp [c_6]) (by simp [m_smAt, c_6]) (Nat.le_refl _) (Nat.le_refl _) dX2_smoothedAt_10
set_option maxHeartbeats 4000000 in
set_option maxRecDepth 100000 in
/-- smoothedSpeedAt -/
theorem met_X2_smoothedSpeedAt (l : Launch) (K : gK) (mo : Nat) (A : mA) (σ : mS) (t b : Int32) (h15 : mn σ 15 ≤ 40) (hE : ∀ t, t < mn σ 15 → mb σ 20 t ≤ mb σ 21 t ∧ mb σ 21 t < 64) : mMet l K mo A yX2_smoothedSpeedAt cX2_smoothedSpeedAt 3 (some .long) 3 146 [.int (t), .int (b)] σ (some (.long (if m_bt σ t b = true then ml (m_smooth (m_first σ true) t.toNatClampNeg b.toNatClampNeg) 42 else 0))) (m_smAt σ t b) := by
  intro G hR0
  refine gMet.of (by decide) (Nat.le_of_ble_eq_true rfl) (fun p e s m below meth c ls hx hb X hr hin hG hS hl => ?_)
  have X : gC K p s m _ meth c cX2_smoothedSpeedAt 3 "KalmanQuayModel" := X
  have hM := mPre hR0 hG
  have hl : lv_has ls 3 [(0, .ref (mo)), (1, .int (t)), (2, .int (b))] := hl
  refine lv_aload_n hx hb dX2_smoothedSpeedAt_0 rfl (lv_at hl 0 rfl) ?_
  refine lv_iload_n hx hb dX2_smoothedSpeedAt_1 rfl (lv_at hl 1 rfl) ?_
  refine lv_iload_n hx hb dX2_smoothedSpeedAt_2 rfl (lv_at hl 2 rfl) ?_
  refine m_call X (met_X2_claimBeat l K mo A σ (t) (b) h15 hE) gp_X2_claimBeat rfl q1611 q1613 qs31 q42 q1614 hM hS hl ⟨Nat.le_of_ble_eq_true rfl, Nat.le_of_ble_eq_true rfl⟩ ⟨Nat.le_refl _, Nat.le_refl _⟩ (rest := []) (Nat.le_of_ble_eq_true rfl) rfl dX2_smoothedSpeedAt_3 (fun H locs hM hS => ?_)
  refine W.eq (g2 := F0 m 6 ls [.int (gb (m_bt σ t b))]) rfl ?_
  refine g_ifb_ne hx hb 11 dX2_smoothedSpeedAt_6 (by decide) (fun c_6 => ?_) (fun c_6 => ?_)
  · skip
    rw [c_6] at hM
    obtain ⟨c_a, c_b⟩ := Bool.and_eq_true_iff.mp (show (m_tr σ t && m_in b (nI (mb σ 20 t.toNatClampNeg)) (nI (mb σ 21 t.toNatClampNeg))) = true from c_6)
    obtain ⟨ht1, ht2⟩ := in_rng (n := mn σ 15) (by omega) c_a
    have hE2 := hE _ ht2
    obtain ⟨hb1, hb2, hb3⟩ := in_rng2 (by omega) (by omega) c_b
    rw [ht1, hb1] at hl
    refine lv_aload_n hx hb dX2_smoothedSpeedAt_11 rfl (lv_at hl 0 rfl) ?_
    refine lv_iload_n hx hb dX2_smoothedSpeedAt_12 rfl (lv_at hl 1 rfl) ?_
    refine lv_iload_n hx hb dX2_smoothedSpeedAt_13 rfl (lv_at hl 2 rfl) ?_
    refine m_call X (met_X2_smooth l K mo A (m_first σ true) (t.toNatClampNeg) (b.toNatClampNeg) (by omega) (by simpa [mb_m_first] using hb3) (by simpa [mb_m_first] using hE2.2)) gp_X2_smooth rfl q1623 q1625 qs32 q42 q1626 hM hS hl ⟨Nat.le_of_ble_eq_true rfl, Nat.le_of_ble_eq_true rfl⟩ ⟨Nat.le_refl _, Nat.le_refl _⟩ (rest := []) (Nat.le_of_ble_eq_true rfl) rfl dX2_smoothedSpeedAt_14 (fun H locs hM hS => ?_)
    refine W.eq (g2 := F0 m 17 ls []) rfl ?_
    refine lv_aload_n hx hb dX2_smoothedSpeedAt_17 rfl (lv_at hl 0 rfl) ?_
    refine mf42 X hM dX2_smoothedSpeedAt_18 ?_
    exact m_lret X hr hM hS (by simp [c_6]) (by simp [m_smAt, c_6]) (Nat.le_refl _) (Nat.le_refl _) dX2_smoothedSpeedAt_21
  · skip
    rw [c_6] at hM
    refine lv_lconst (v := 0) hx hb dX2_smoothedSpeedAt_9 rfl ?_
    exact m_lret X hr hM hS (by simp [c_6]) (by simp [m_smAt, c_6]) (Nat.le_refl _) (Nat.le_refl _) dX2_smoothedSpeedAt_10
theorem near_rng (σ : mS) (pl : Int32) (n : Nat) (hn : n ≤ 40) : ¬ m_near σ pl n = -1 → m_near σ pl n = nI (m_near σ pl n).toNatClampNeg ∧ (m_near σ pl n).toNatClampNeg < n := by
  induction n with
  | zero => exact fun h => absurd rfl h
  | succ n ih =>
    intro h
    rw [m_near] at h ⊢
    split at h
    · rw [if_pos (by assumption), nI_clamp (by omega)]
      exact ⟨rfl, by omega⟩
    · rename_i hc
      rw [if_neg hc]
      have := ih (by omega) h
      exact ⟨this.1, by omega⟩
set_option maxHeartbeats 4000000 in
set_option maxRecDepth 100000 in
/-- nearest -/
theorem met_X2_nearest (l : Launch) (K : gK) (mo : Nat) (A : mA) (σ : mS) (pl : Int32) (h15 : mn σ 15 ≤ 40) : mMet l K mo A yX2_nearest cX2_nearest 7 (some .int) 2 75 [.int (pl)] σ (some (.int (if m_in pl (-100000) 100000 = true ∧ ¬ m_near σ pl (mn σ 15) = -1 then m_near σ pl (mn σ 15) else 0))) (if m_in pl (-100000) 100000 = true then m_claim (m_first σ true) (decide (¬ m_near σ pl (mn σ 15) = -1)) 2 else m_first σ false) := by
  intro G hR0
  refine gMet.of (by decide) (Nat.le_of_ble_eq_true rfl) (fun p e s m below meth c ls hx hb X hr hin hG hS hl => ?_)
  have X : gC K p s m _ meth c cX2_nearest 7 "KalmanQuayModel" := X
  have hM := mPre hR0 hG
  have hl : lv_has ls 7 [(0, .ref (mo)), (1, .int (pl))] := hl
  refine lv_aload_n hx hb dX2_nearest_0 rfl (lv_at hl 0 rfl) ?_
  refine lv_iload_n hx hb dX2_nearest_1 rfl (lv_at hl 1 rfl) ?_
  refine lv_ldc (v := (-100000)) hx hb X.1.2.2.2.1 (X.1.2.2.2.2 _ q1460) dX2_nearest_2 ?_
  refine lv_ldc (v := 100000) hx hb X.1.2.2.2.1 (X.1.2.2.2.2 _ q1461) dX2_nearest_4 ?_
  refine m_callP X (met_X2_in l K (pl) ((-100000)) (100000) ) gp_X2_in rfl q1432 q1433 q42 q1434 hM hS hl ⟨Nat.le_of_ble_eq_true rfl, Nat.le_of_ble_eq_true rfl⟩ ⟨Nat.le_refl _, Nat.le_refl _⟩ (rest := [.ref (mo)]) (Nat.le_of_ble_eq_true rfl) rfl dX2_nearest_6 (fun H locs hM hS => ?_)
  refine W.eq (g2 := F0 m 9 ls [.int (gb (m_in pl (-100000) 100000)), .ref (mo)]) rfl ?_
  refine m_call X (met_X2_claimFirst l K mo A σ (m_in pl (-100000) 100000) ) gp_X2_claimFirst rfl q1435 q1437 qs14 q42 q1438 hM hS hl ⟨Nat.le_of_ble_eq_true rfl, Nat.le_of_ble_eq_true rfl⟩ ⟨Nat.le_refl _, Nat.le_refl _⟩ (rest := []) (Nat.le_of_ble_eq_true rfl) rfl dX2_nearest_9 (fun H locs hM hS => ?_)
  refine W.eq (g2 := F0 m 12 ls [.int (gb (m_in pl (-100000) 100000))]) rfl ?_
  refine g_ifb_ne hx hb 17 dX2_nearest_12 (by decide) (fun c_12 => ?_) (fun c_12 => ?_)
  · skip
    rw [c_12] at hM
    refine lv_iconst (v := (-1)) hx hb dX2_nearest_17 (by decide) ?_
    refine lv_istore_n (lv' := [(2, .int ((-1))), (0, .ref (mo)), (1, .int (pl))]) hx hb dX2_nearest_18 rfl hl (by decide) rfl (fun ls hl => ?_)
    refine lv_iconst (v := 0) hx hb dX2_nearest_19 (by decide) ?_
    refine lv_istore_n (lv' := [(3, .int (0)), (2, .int ((-1))), (0, .ref (mo)), (1, .int (pl))]) hx hb dX2_nearest_20 rfl hl (by decide) rfl (fun ls hl => ?_)
    have loop_21 : ∀ (n i : Nat) (H : Heap) (locs : List Loc) (ls : Array Slot), i + n = mn σ 15 → mH K mo A (m_first σ true) G H → va_S (gA K) s.heap H locs → lv_has ls 7 [(3, .int (nI (i))), (2, .int (m_near σ pl i)), (0, .ref (mo)), (1, .int (pl))] → W p l e ({ frames := 2, cells := 0, slots := 0, locals := 75 } : Room) s m ([.ref (mo), .int (pl)] : List Value).toArray below meth c H locs 0 0 (MQ below (gQ K (fun w G1 => w = (some (.int (if m_in pl (-100000) 100000 = true ∧ ¬ m_near σ pl (mn σ 15) = -1 then m_near σ pl (mn σ 15) else 0))) ∧ mR K mo A (if m_in pl (-100000) 100000 = true then m_claim (m_first σ true) (decide (¬ m_near σ pl (mn σ 15) = -1)) 2 else m_first σ false) G1 ∧ gF mT G G1)) ([.ref (mo), .int (pl)] : List Value).toArray s 0 0 (gA K)) (F0 m 21 ls []) := by
      intro n
      induction n with
      | zero =>
        intro i H locs ls hi_21 hM hS hl
        refine lv_iload_n hx hb dX2_nearest_21 rfl (lv_at hl 0 rfl) ?_
        refine lv_aload_n hx hb dX2_nearest_22 rfl (lv_at hl 2 rfl) ?_
        refine mf15 X hM dX2_nearest_23 ?_
        refine g_topE (z := nI (mn σ 15)) (by simp [mn_m_first]) ?_
        refine g_icmp_ge hx hb 120 dX2_nearest_26 (by decide) (a := i) (b := mn σ 15) rfl rfl (by omega) (by omega) (fun c_26 => ?_) (fun c_26 => ?_)
        · skip
          refine lv_aload_n hx hb dX2_nearest_120 rfl (lv_at hl 2 rfl) ?_
          refine lv_iload_n hx hb dX2_nearest_121 rfl (lv_at hl 1 rfl) ?_
          refine lv_iconst (v := (-1)) hx hb dX2_nearest_122 (by decide) ?_
          refine lv_icmp_eq (tgt := 130) hx hb dX2_nearest_123 (by decide) (fun c_123 => ?_) (fun c_123 => ?_)
          · skip
            refine lv_iconst (v := 0) hx hb dX2_nearest_130 (by decide) ?_
            refine lv_iconst (v := 2) hx hb dX2_nearest_131 (by decide) ?_
            refine m_call X (met_X2_claim l K mo A (m_first σ true) false 2 ) gp_X2_claim rfl q1439 q1441 qs15 q42 q1442 hM hS hl ⟨Nat.le_of_ble_eq_true rfl, Nat.le_of_ble_eq_true rfl⟩ ⟨Nat.le_refl _, Nat.le_refl _⟩ (rest := []) (Nat.le_of_ble_eq_true rfl) rfl dX2_nearest_132 (fun H locs hM hS => ?_)
            refine W.eq (g2 := F0 m 135 ls [.int (0)]) rfl ?_
            refine g_ifn_eq hx hb 142 dX2_nearest_135 (by decide) (a := 0) rfl (by decide) (fun c_135 => ?_) (fun c_135 => ?_)
            · skip
              refine lv_iconst (v := 0) hx hb dX2_nearest_142 (by decide) ?_
              exact m_iret X hr hM hS (by have h_ : i = mn σ 15 := (by omega); subst h_; simp [c_12, c_123]) (by have h_ : i = mn σ 15 := (by omega); subst h_; simp [c_12, cl_t, cl_f, c_123]) (Nat.le_refl _) (Nat.le_refl _) dX2_nearest_143
            · exact absurd rfl c_135
          · skip
            refine lv_iconst (v := 1) hx hb dX2_nearest_126 (by decide) ?_
            refine lv_goto (tgt := 131) hx hb dX2_nearest_127 (by decide) ?_
            refine lv_iconst (v := 2) hx hb dX2_nearest_131 (by decide) ?_
            refine m_call X (met_X2_claim l K mo A (m_first σ true) true 2 ) gp_X2_claim rfl q1439 q1441 qs15 q42 q1442 hM hS hl ⟨Nat.le_of_ble_eq_true rfl, Nat.le_of_ble_eq_true rfl⟩ ⟨Nat.le_refl _, Nat.le_refl _⟩ (rest := []) (Nat.le_of_ble_eq_true rfl) rfl dX2_nearest_132 (fun H locs hM hS => ?_)
            refine W.eq (g2 := F0 m 135 ls [.int (1)]) rfl ?_
            refine g_ifn_eq hx hb 142 dX2_nearest_135 (by decide) (a := 1) rfl (by decide) (fun c_135 => ?_) (fun c_135 => ?_)
            · exact absurd c_135 (by decide)
            · skip
              refine lv_iload_n hx hb dX2_nearest_138 rfl (lv_at hl 1 rfl) ?_
              refine lv_goto (tgt := 143) hx hb dX2_nearest_139 (by decide) ?_
              exact m_iret X hr hM hS (by have h_ : i = mn σ 15 := (by omega); subst h_; simp [c_12, c_123]) (by have h_ : i = mn σ 15 := (by omega); subst h_; simp [c_12, cl_t, cl_f, c_123]) (Nat.le_refl _) (Nat.le_refl _) dX2_nearest_143
        · skip
          exact absurd c_26 (by omega)
      | succ n ih_21 =>
        intro i H locs ls hi_21 hM hS hl
        refine lv_iload_n hx hb dX2_nearest_21 rfl (lv_at hl 0 rfl) ?_
        refine lv_aload_n hx hb dX2_nearest_22 rfl (lv_at hl 2 rfl) ?_
        refine mf15 X hM dX2_nearest_23 ?_
        refine g_topE (z := nI (mn σ 15)) (by simp [mn_m_first]) ?_
        refine g_icmp_ge hx hb 120 dX2_nearest_26 (by decide) (a := i) (b := mn σ 15) rfl rfl (by omega) (by omega) (fun c_26 => ?_) (fun c_26 => ?_)
        · skip
          exact absurd c_26 (by omega)
        · skip
          refine lv_aload_n hx hb dX2_nearest_29 rfl (lv_at hl 2 rfl) ?_
          refine mf16 X hM dX2_nearest_30 ?_
          refine lv_iload_n hx hb dX2_nearest_33 rfl (lv_at hl 0 rfl) ?_
          refine m_ldc X hM 16 40 rfl rfl (by omega) (by decide) dX2_nearest_34 ?_
          refine g_topE (z := gb (mc σ 16 i)) (by simp [mc_m_first]) ?_
          refine g_ifb_eq hx hb 51 dX2_nearest_35 (by decide) (fun c_35 => ?_) (fun c_35 => ?_)
          · skip
            refine lv_iconst (v := 0) hx hb dX2_nearest_51 (by decide) ?_
            refine lv_istore (lv' := [(4, .int (0)), (3, .int (nI (i))), (2, .int (m_near σ pl i)), (0, .ref (mo)), (1, .int (pl))]) hx hb dX2_nearest_52 hl (by decide) rfl (fun ls hl => ?_)
            refine lv_aload_n hx hb dX2_nearest_54 rfl (lv_at hl 3 rfl) ?_
            refine mf25 X hM dX2_nearest_55 ?_
            refine lv_iload_n hx hb dX2_nearest_58 rfl (lv_at hl 1 rfl) ?_
            refine m_aaN X hM rfl (by omega) dX2_nearest_59 ?_
            refine lv_iconst (v := 0) hx hb dX2_nearest_60 (by decide) ?_
            refine m_ldN X hM rfl (by omega) (by decide) dX2_nearest_61 ?_
            refine g_topL (z := mN σ i 0) (by simp [mN_m_first]) ?_
            refine lv_ldc2 (v := 256) hx hb X.1.2.2.2.1 (X.1.2.2.2.2 _ q1511) dX2_nearest_62 ?_
            refine lv_iload_n hx hb dX2_nearest_65 rfl (lv_at hl 4 rfl) ?_
            refine lv_i2l hx hb dX2_nearest_66 rfl ?_
            refine lv_lmul hx hb dX2_nearest_67 ?_
            refine lv_lsub hx hb dX2_nearest_68 ?_
            refine va_mabs_long hx hb (X.1.2.2.1.trans hl.1.symm) X.1.2.2.2.1 (X.1.2.2.2.2 _ q1640) (X.1.2.2.2.2 _ q1210) (X.1.2.2.2.2 _ q52) (X.1.2.2.2.2 _ q1211) (Nat.le_of_ble_eq_true rfl) (Nat.le_of_ble_eq_true rfl) (Nat.le_refl _) (Nat.le_refl _) dX2_nearest_69 ?_
            refine W.eq (g2 := F0 m 72 ls [.long (l_abs ((mN σ i 0) - (256 * pl.toInt64)))]) rfl ?_
            refine lv_lstore (lv' := [(5, .long (l_abs ((mN σ i 0) - (256 * pl.toInt64)))), (4, .int (0)), (3, .int (nI (i))), (2, .int (m_near σ pl i)), (0, .ref (mo)), (1, .int (pl))]) hx hb dX2_nearest_72 hl (by decide) rfl (fun ls hl => ?_)
            refine lv_iload hx hb dX2_nearest_74 (lv_at hl 1 rfl) ?_
            refine g_ifn_eq hx hb 112 dX2_nearest_76 (by decide) (a := 0) rfl (by decide) (fun c_76 => ?_) (fun c_76 => ?_)
            · skip
              refine lv_iload_n hx hb dX2_nearest_112 rfl (lv_at hl 3 rfl) ?_
              refine lv_istore_n (lv' := [(2, .int (m_near σ pl i)), (5, .long (l_abs ((mN σ i 0) - (256 * pl.toInt64)))), (4, .int (0)), (3, .int (nI (i))), (0, .ref (mo)), (1, .int (pl))]) hx hb dX2_nearest_113 rfl hl (by decide) rfl (fun ls hl => ?_)
              refine lv_iinc (v := nI (i + 1)) (lv' := [(3, .int (nI (i + 1))), (2, .int (m_near σ pl i)), (5, .long (l_abs ((mN σ i 0) - (256 * pl.toInt64)))), (4, .int (0)), (0, .ref (mo)), (1, .int (pl))]) hx hb dX2_nearest_114 hl (k := 3) rfl (n_add (a := i) (b := 1) rfl rfl) (by decide) rfl (fun ls hl => ?_)
              refine lv_goto (tgt := 21) hx hb dX2_nearest_117 (by decide) ?_
              have e_2 : m_near σ pl (i + 1) = m_near σ pl i := by rw [m_near]; simp [c_26, c_35]
              rw [← e_2] at hl
              exact ih_21 (i + 1) H locs ls (by omega) hM hS (lv_sub hl [0, 1, 4, 5] rfl)
            · exact absurd rfl c_76
          · skip
            refine lv_aload_n hx hb dX2_nearest_38 rfl (lv_at hl 2 rfl) ?_
            refine mf17 X hM dX2_nearest_39 ?_
            refine lv_iload_n hx hb dX2_nearest_42 rfl (lv_at hl 0 rfl) ?_
            refine m_ldc X hM 17 40 rfl rfl (by omega) (by decide) dX2_nearest_43 ?_
            refine g_topE (z := gb (mc σ 17 i)) (by simp [mc_m_first]) ?_
            refine g_ifb_eq hx hb 51 dX2_nearest_44 (by decide) (fun c_44 => ?_) (fun c_44 => ?_)
            · skip
              refine lv_iconst (v := 0) hx hb dX2_nearest_51 (by decide) ?_
              refine lv_istore (lv' := [(4, .int (0)), (3, .int (nI (i))), (2, .int (m_near σ pl i)), (0, .ref (mo)), (1, .int (pl))]) hx hb dX2_nearest_52 hl (by decide) rfl (fun ls hl => ?_)
              refine lv_aload_n hx hb dX2_nearest_54 rfl (lv_at hl 3 rfl) ?_
              refine mf25 X hM dX2_nearest_55 ?_
              refine lv_iload_n hx hb dX2_nearest_58 rfl (lv_at hl 1 rfl) ?_
              refine m_aaN X hM rfl (by omega) dX2_nearest_59 ?_
              refine lv_iconst (v := 0) hx hb dX2_nearest_60 (by decide) ?_
              refine m_ldN X hM rfl (by omega) (by decide) dX2_nearest_61 ?_
              refine g_topL (z := mN σ i 0) (by simp [mN_m_first]) ?_
              refine lv_ldc2 (v := 256) hx hb X.1.2.2.2.1 (X.1.2.2.2.2 _ q1511) dX2_nearest_62 ?_
              refine lv_iload_n hx hb dX2_nearest_65 rfl (lv_at hl 4 rfl) ?_
              refine lv_i2l hx hb dX2_nearest_66 rfl ?_
              refine lv_lmul hx hb dX2_nearest_67 ?_
              refine lv_lsub hx hb dX2_nearest_68 ?_
              refine va_mabs_long hx hb (X.1.2.2.1.trans hl.1.symm) X.1.2.2.2.1 (X.1.2.2.2.2 _ q1640) (X.1.2.2.2.2 _ q1210) (X.1.2.2.2.2 _ q52) (X.1.2.2.2.2 _ q1211) (Nat.le_of_ble_eq_true rfl) (Nat.le_of_ble_eq_true rfl) (Nat.le_refl _) (Nat.le_refl _) dX2_nearest_69 ?_
              refine W.eq (g2 := F0 m 72 ls [.long (l_abs ((mN σ i 0) - (256 * pl.toInt64)))]) rfl ?_
              refine lv_lstore (lv' := [(5, .long (l_abs ((mN σ i 0) - (256 * pl.toInt64)))), (4, .int (0)), (3, .int (nI (i))), (2, .int (m_near σ pl i)), (0, .ref (mo)), (1, .int (pl))]) hx hb dX2_nearest_72 hl (by decide) rfl (fun ls hl => ?_)
              refine lv_iload hx hb dX2_nearest_74 (lv_at hl 1 rfl) ?_
              refine g_ifn_eq hx hb 112 dX2_nearest_76 (by decide) (a := 0) rfl (by decide) (fun c_76 => ?_) (fun c_76 => ?_)
              · skip
                refine lv_iload_n hx hb dX2_nearest_112 rfl (lv_at hl 3 rfl) ?_
                refine lv_istore_n (lv' := [(2, .int (m_near σ pl i)), (5, .long (l_abs ((mN σ i 0) - (256 * pl.toInt64)))), (4, .int (0)), (3, .int (nI (i))), (0, .ref (mo)), (1, .int (pl))]) hx hb dX2_nearest_113 rfl hl (by decide) rfl (fun ls hl => ?_)
                refine lv_iinc (v := nI (i + 1)) (lv' := [(3, .int (nI (i + 1))), (2, .int (m_near σ pl i)), (5, .long (l_abs ((mN σ i 0) - (256 * pl.toInt64)))), (4, .int (0)), (0, .ref (mo)), (1, .int (pl))]) hx hb dX2_nearest_114 hl (k := 3) rfl (n_add (a := i) (b := 1) rfl rfl) (by decide) rfl (fun ls hl => ?_)
                refine lv_goto (tgt := 21) hx hb dX2_nearest_117 (by decide) ?_
                have e_2 : m_near σ pl (i + 1) = m_near σ pl i := by rw [m_near]; simp [c_26, c_35, c_44]
                rw [← e_2] at hl
                exact ih_21 (i + 1) H locs ls (by omega) hM hS (lv_sub hl [0, 1, 4, 5] rfl)
              · exact absurd rfl c_76
            · skip
              refine lv_iconst (v := 1) hx hb dX2_nearest_47 (by decide) ?_
              refine lv_goto (tgt := 52) hx hb dX2_nearest_48 (by decide) ?_
              refine lv_istore (lv' := [(4, .int (1)), (3, .int (nI (i))), (2, .int (m_near σ pl i)), (0, .ref (mo)), (1, .int (pl))]) hx hb dX2_nearest_52 hl (by decide) rfl (fun ls hl => ?_)
              refine lv_aload_n hx hb dX2_nearest_54 rfl (lv_at hl 3 rfl) ?_
              refine mf25 X hM dX2_nearest_55 ?_
              refine lv_iload_n hx hb dX2_nearest_58 rfl (lv_at hl 1 rfl) ?_
              refine m_aaN X hM rfl (by omega) dX2_nearest_59 ?_
              refine lv_iconst (v := 0) hx hb dX2_nearest_60 (by decide) ?_
              refine m_ldN X hM rfl (by omega) (by decide) dX2_nearest_61 ?_
              refine g_topL (z := mN σ i 0) (by simp [mN_m_first]) ?_
              refine lv_ldc2 (v := 256) hx hb X.1.2.2.2.1 (X.1.2.2.2.2 _ q1511) dX2_nearest_62 ?_
              refine lv_iload_n hx hb dX2_nearest_65 rfl (lv_at hl 4 rfl) ?_
              refine lv_i2l hx hb dX2_nearest_66 rfl ?_
              refine lv_lmul hx hb dX2_nearest_67 ?_
              refine lv_lsub hx hb dX2_nearest_68 ?_
              refine va_mabs_long hx hb (X.1.2.2.1.trans hl.1.symm) X.1.2.2.2.1 (X.1.2.2.2.2 _ q1640) (X.1.2.2.2.2 _ q1210) (X.1.2.2.2.2 _ q52) (X.1.2.2.2.2 _ q1211) (Nat.le_of_ble_eq_true rfl) (Nat.le_of_ble_eq_true rfl) (Nat.le_refl _) (Nat.le_refl _) dX2_nearest_69 ?_
              refine W.eq (g2 := F0 m 72 ls [.long (l_abs ((mN σ i 0) - (256 * pl.toInt64)))]) rfl ?_
              refine lv_lstore (lv' := [(5, .long (l_abs ((mN σ i 0) - (256 * pl.toInt64)))), (4, .int (1)), (3, .int (nI (i))), (2, .int (m_near σ pl i)), (0, .ref (mo)), (1, .int (pl))]) hx hb dX2_nearest_72 hl (by decide) rfl (fun ls hl => ?_)
              refine lv_iload hx hb dX2_nearest_74 (lv_at hl 1 rfl) ?_
              refine g_ifn_eq hx hb 112 dX2_nearest_76 (by decide) (a := 1) rfl (by decide) (fun c_76 => ?_) (fun c_76 => ?_)
              · exact absurd c_76 (by decide)
              · skip
                refine lv_iload_n hx hb dX2_nearest_79 rfl (lv_at hl 3 rfl) ?_
                refine lv_iconst (v := (-1)) hx hb dX2_nearest_80 (by decide) ?_
                refine lv_icmp_eq (tgt := 108) hx hb dX2_nearest_81 (by decide) (fun c_81 => ?_) (fun c_81 => ?_)
                · skip
                  refine lv_iload_n hx hb dX2_nearest_108 rfl (lv_at hl 2 rfl) ?_
                  refine lv_goto (tgt := 113) hx hb dX2_nearest_109 (by decide) ?_
                  refine lv_istore_n (lv' := [(2, .int (nI (i))), (5, .long (l_abs ((mN σ i 0) - (256 * pl.toInt64)))), (4, .int (1)), (3, .int (nI (i))), (0, .ref (mo)), (1, .int (pl))]) hx hb dX2_nearest_113 rfl hl (by decide) rfl (fun ls hl => ?_)
                  refine lv_iinc (v := nI (i + 1)) (lv' := [(3, .int (nI (i + 1))), (2, .int (nI (i))), (5, .long (l_abs ((mN σ i 0) - (256 * pl.toInt64)))), (4, .int (1)), (0, .ref (mo)), (1, .int (pl))]) hx hb dX2_nearest_114 hl (k := 3) rfl (n_add (a := i) (b := 1) rfl rfl) (by decide) rfl (fun ls hl => ?_)
                  refine lv_goto (tgt := 21) hx hb dX2_nearest_117 (by decide) ?_
                  have e_2 : m_near σ pl (i + 1) = nI (i) := by rw [m_near]; simp [c_26, c_35, c_44, c_81]
                  rw [← e_2] at hl
                  exact ih_21 (i + 1) H locs ls (by omega) hM hS (lv_sub hl [0, 1, 4, 5] rfl)
                · skip
                  obtain ⟨hn1, hn2⟩ := near_rng σ pl i (by omega) c_81
                  have hn3 : (m_near σ pl i).toNatClampNeg < 40 := by omega
                  refine lv_lload hx hb dX2_nearest_84 (lv_at hl 0 rfl) ?_
                  refine lv_aload_n hx hb dX2_nearest_86 rfl (lv_at hl 4 rfl) ?_
                  refine mf25 X hM dX2_nearest_87 ?_
                  refine lv_iload_n hx hb dX2_nearest_90 rfl (lv_at hl 3 rfl) ?_
                  refine m_aaN X hM hn1 hn3 dX2_nearest_91 ?_
                  refine lv_iconst (v := 0) hx hb dX2_nearest_92 (by decide) ?_
                  refine m_ldN X hM rfl (by omega) (by decide) dX2_nearest_93 ?_
                  refine g_topL (z := mN σ ((m_near σ pl i).toNatClampNeg) 0) (by simp [mN_m_first]) ?_
                  refine lv_ldc2 (v := 256) hx hb X.1.2.2.2.1 (X.1.2.2.2.2 _ q1511) dX2_nearest_94 ?_
                  refine lv_iload_n hx hb dX2_nearest_97 rfl (lv_at hl 5 rfl) ?_
                  refine lv_i2l hx hb dX2_nearest_98 rfl ?_
                  refine lv_lmul hx hb dX2_nearest_99 ?_
                  refine lv_lsub hx hb dX2_nearest_100 ?_
                  refine va_mabs_long hx hb (X.1.2.2.1.trans hl.1.symm) X.1.2.2.2.1 (X.1.2.2.2.2 _ q1640) (X.1.2.2.2.2 _ q1210) (X.1.2.2.2.2 _ q52) (X.1.2.2.2.2 _ q1211) (Nat.le_of_ble_eq_true rfl) (Nat.le_of_ble_eq_true rfl) (Nat.le_refl _) (Nat.le_refl _) dX2_nearest_101 ?_
                  refine W.eq (g2 := F0 m 104 ls [.long (l_abs ((mN σ ((m_near σ pl i).toNatClampNeg) 0) - (256 * pl.toInt64))), .long (l_abs ((mN σ i 0) - (256 * pl.toInt64)))]) rfl ?_
                  refine g_lif_ge hx hb 112 dX2_nearest_104 dX2_nearest_105 (by decide) (fun c_104 => ?_) (fun c_104 => ?_)
                  · skip
                    refine lv_iload_n hx hb dX2_nearest_112 rfl (lv_at hl 3 rfl) ?_
                    refine lv_istore_n (lv' := [(2, .int (m_near σ pl i)), (5, .long (l_abs ((mN σ i 0) - (256 * pl.toInt64)))), (4, .int (1)), (3, .int (nI (i))), (0, .ref (mo)), (1, .int (pl))]) hx hb dX2_nearest_113 rfl hl (by decide) rfl (fun ls hl => ?_)
                    refine lv_iinc (v := nI (i + 1)) (lv' := [(3, .int (nI (i + 1))), (2, .int (m_near σ pl i)), (5, .long (l_abs ((mN σ i 0) - (256 * pl.toInt64)))), (4, .int (1)), (0, .ref (mo)), (1, .int (pl))]) hx hb dX2_nearest_114 hl (k := 3) rfl (n_add (a := i) (b := 1) rfl rfl) (by decide) rfl (fun ls hl => ?_)
                    refine lv_goto (tgt := 21) hx hb dX2_nearest_117 (by decide) ?_
                    have e_2 : m_near σ pl (i + 1) = m_near σ pl i := by rw [m_near]; simp [c_26, c_35, c_44, c_81, c_104, Int64.not_lt.mpr c_104]
                    rw [← e_2] at hl
                    exact ih_21 (i + 1) H locs ls (by omega) hM hS (lv_sub hl [0, 1, 4, 5] rfl)
                  · skip
                    refine lv_iload_n hx hb dX2_nearest_108 rfl (lv_at hl 2 rfl) ?_
                    refine lv_goto (tgt := 113) hx hb dX2_nearest_109 (by decide) ?_
                    refine lv_istore_n (lv' := [(2, .int (nI (i))), (5, .long (l_abs ((mN σ i 0) - (256 * pl.toInt64)))), (4, .int (1)), (3, .int (nI (i))), (0, .ref (mo)), (1, .int (pl))]) hx hb dX2_nearest_113 rfl hl (by decide) rfl (fun ls hl => ?_)
                    refine lv_iinc (v := nI (i + 1)) (lv' := [(3, .int (nI (i + 1))), (2, .int (nI (i))), (5, .long (l_abs ((mN σ i 0) - (256 * pl.toInt64)))), (4, .int (1)), (0, .ref (mo)), (1, .int (pl))]) hx hb dX2_nearest_114 hl (k := 3) rfl (n_add (a := i) (b := 1) rfl rfl) (by decide) rfl (fun ls hl => ?_)
                    refine lv_goto (tgt := 21) hx hb dX2_nearest_117 (by decide) ?_
                    have e_2 : m_near σ pl (i + 1) = nI (i) := by rw [m_near]; simp [c_26, c_35, c_44, c_81, c_104]
                    rw [← e_2] at hl
                    exact ih_21 (i + 1) H locs ls (by omega) hM hS (lv_sub hl [0, 1, 4, 5] rfl)
    exact loop_21 (mn σ 15) 0 _ _ ls (by omega) hM hS (lv_sub hl [0, 1, 2, 3] rfl)
  · skip
    rw [c_12] at hM
    refine lv_iconst (v := 0) hx hb dX2_nearest_15 (by decide) ?_
    exact m_iret X hr hM hS (by rw [if_neg (by rw [c_12]; simp)]) (by rw [if_neg (by rw [c_12]; decide)]) (Nat.le_refl _) (Nat.le_refl _) dX2_nearest_16
set_option maxHeartbeats 4000000 in
set_option maxRecDepth 100000 in
/-- bend -/
theorem met_X2_bend (l : Launch) (K : gK) (mo : Nat) (A : mA) (σ : mS) (t : Int32) (h15 : mn σ 15 ≤ 40) (hE : ∀ t, t < mn σ 15 → mb σ 20 t ≤ mb σ 21 t ∧ mb σ 21 t < 64) : mMet l K mo A yX2_bend cX2_bend 5 (some .long) 3 146 [.int (t)] σ (some (.long (if m_tr σ t = true then (m_bend t.toNatClampNeg (m_len σ t.toNatClampNeg) (m_first σ true, 0)).2 else 0))) (if m_tr σ t = true then (m_bend t.toNatClampNeg (m_len σ t.toNatClampNeg) (m_first σ true, 0)).1 else m_first σ false) := by
  intro G hR0
  refine gMet.of (by decide) (Nat.le_of_ble_eq_true rfl) (fun p e s m below meth c ls hx hb X hr hin hG hS hl => ?_)
  have X : gC K p s m _ meth c cX2_bend 5 "KalmanQuayModel" := X
  have hM := mPre hR0 hG
  have hl : lv_has ls 5 [(0, .ref (mo)), (1, .int (t))] := hl
  refine lv_aload_n hx hb dX2_bend_0 rfl (lv_at hl 0 rfl) ?_
  refine lv_iload_n hx hb dX2_bend_1 rfl (lv_at hl 1 rfl) ?_
  refine m_call X (met_X2_claimTrack l K mo A σ (t) (by omega)) gp_X2_claimTrack rfl q1567 q1569 qs30 q42 q1570 hM hS hl ⟨Nat.le_of_ble_eq_true rfl, Nat.le_of_ble_eq_true rfl⟩ ⟨Nat.le_refl _, Nat.le_refl _⟩ (rest := []) (Nat.le_of_ble_eq_true rfl) rfl dX2_bend_2 (fun H locs hM hS => ?_)
  refine W.eq (g2 := F0 m 5 ls [.int (gb (m_tr σ t))]) rfl ?_
  refine g_ifb_ne hx hb 10 dX2_bend_5 (by decide) (fun c_5 => ?_) (fun c_5 => ?_)
  · skip
    rw [c_5] at hM
    obtain ⟨ht1, ht2⟩ := in_rng (n := mn σ 15) (by omega) c_5
    rw [ht1] at hl
    refine lv_lconst (v := 0) hx hb dX2_bend_10 rfl ?_
    refine lv_lstore_n (lv' := [(2, .long (0)), (0, .ref (mo)), (1, .int (nI (t.toNatClampNeg)))]) hx hb dX2_bend_11 rfl hl (by decide) rfl (fun ls hl => ?_)
    refine lv_aload_n hx hb dX2_bend_12 rfl (lv_at hl 1 rfl) ?_
    refine mf20 X hM dX2_bend_13 ?_
    refine lv_iload_n hx hb dX2_bend_16 rfl (lv_at hl 2 rfl) ?_
    refine m_ldb X hM 20 40 rfl rfl (by omega) (by decide) dX2_bend_17 ?_
    refine g_topE (z := nI (mb σ 20 t.toNatClampNeg)) (by simp [mb_m_first]) ?_
    refine lv_istore (lv' := [(4, .int (nI (mb σ 20 t.toNatClampNeg))), (2, .long (0)), (0, .ref (mo)), (1, .int (nI (t.toNatClampNeg)))]) hx hb dX2_bend_18 hl (by decide) rfl (fun ls hl => ?_)
    have hE2 := hE _ ht2
    have loop_20 : ∀ (n i : Nat) (H : Heap) (locs : List Loc) (ls : Array Slot), i + n = mb σ 21 t.toNatClampNeg - mb σ 20 t.toNatClampNeg + 1 → mH K mo A ((m_bend t.toNatClampNeg i (m_first σ true, 0)).1) G H → va_S (gA K) s.heap H locs → lv_has ls 5 [(4, .int (nI (mb σ 20 t.toNatClampNeg + i))), (2, .long ((m_bend t.toNatClampNeg i (m_first σ true, 0)).2)), (0, .ref (mo)), (1, .int (nI (t.toNatClampNeg)))] → W p l e ({ frames := 3, cells := 0, slots := 0, locals := 146 } : Room) s m ([.ref (mo), .int (t)] : List Value).toArray below meth c H locs 0 0 (MQ below (gQ K (fun w G1 => w = (some (.long (if m_tr σ t = true then (m_bend t.toNatClampNeg (m_len σ t.toNatClampNeg) (m_first σ true, 0)).2 else 0))) ∧ mR K mo A (if m_tr σ t = true then (m_bend t.toNatClampNeg (m_len σ t.toNatClampNeg) (m_first σ true, 0)).1 else m_first σ false) G1 ∧ gF mT G G1)) ([.ref (mo), .int (t)] : List Value).toArray s 0 0 (gA K)) (F0 m 20 ls []) := by
      intro n
      induction n with
      | zero =>
        intro i H locs ls hi_20 hM hS hl
        refine lv_iload hx hb dX2_bend_20 (lv_at hl 0 rfl) ?_
        refine lv_aload_n hx hb dX2_bend_22 rfl (lv_at hl 2 rfl) ?_
        refine mf21 X hM dX2_bend_23 ?_
        refine lv_iload_n hx hb dX2_bend_26 rfl (lv_at hl 3 rfl) ?_
        refine m_ldb X hM 21 40 rfl rfl (by omega) (by decide) dX2_bend_27 ?_
        refine g_topE (z := nI (mb σ 21 t.toNatClampNeg)) (by simp [mb_m_bend, mb_m_first]) ?_
        refine g_icmp_gt hx hb 68 dX2_bend_28 (by decide) (a := mb σ 20 t.toNatClampNeg + i) (b := mb σ 21 t.toNatClampNeg) rfl rfl (by omega) (by omega) (fun c_28 => ?_) (fun c_28 => ?_)
        · skip
          refine lv_lload_n hx hb dX2_bend_68 rfl (lv_at hl 1 rfl) ?_
          exact m_lret X hr hM hS (by rw [if_pos c_5, m_len, show i = mb σ 21 t.toNatClampNeg - mb σ 20 t.toNatClampNeg + 1 by omega]) (by rw [if_pos c_5, m_len, show i = mb σ 21 t.toNatClampNeg - mb σ 20 t.toNatClampNeg + 1 by omega]) (Nat.le_refl _) (Nat.le_refl _) dX2_bend_69
        · skip
          exact absurd c_28 (by omega)
      | succ n ih_20 =>
        intro i H locs ls hi_20 hM hS hl
        refine lv_iload hx hb dX2_bend_20 (lv_at hl 0 rfl) ?_
        refine lv_aload_n hx hb dX2_bend_22 rfl (lv_at hl 2 rfl) ?_
        refine mf21 X hM dX2_bend_23 ?_
        refine lv_iload_n hx hb dX2_bend_26 rfl (lv_at hl 3 rfl) ?_
        refine m_ldb X hM 21 40 rfl rfl (by omega) (by decide) dX2_bend_27 ?_
        refine g_topE (z := nI (mb σ 21 t.toNatClampNeg)) (by simp [mb_m_bend, mb_m_first]) ?_
        refine g_icmp_gt hx hb 68 dX2_bend_28 (by decide) (a := mb σ 20 t.toNatClampNeg + i) (b := mb σ 21 t.toNatClampNeg) rfl rfl (by omega) (by omega) (fun c_28 => ?_) (fun c_28 => ?_)
        · skip
          exact absurd c_28 (by omega)
        · skip
          refine lv_aload_n hx hb dX2_bend_31 rfl (lv_at hl 2 rfl) ?_
          refine lv_iload_n hx hb dX2_bend_32 rfl (lv_at hl 3 rfl) ?_
          refine lv_iload hx hb dX2_bend_33 (lv_at hl 0 rfl) ?_
          refine m_call X (met_X2_smooth l K mo A ((m_bend t.toNatClampNeg i (m_first σ true, 0)).1) (t.toNatClampNeg) (mb σ 20 t.toNatClampNeg + i) (by omega) (by simp only [mb_m_bend, mb_m_first]; omega) (by simpa [mb_m_bend, mb_m_first] using hE2.2)) gp_X2_smooth rfl q1623 q1625 qs32 q42 q1626 hM hS hl ⟨Nat.le_of_ble_eq_true rfl, Nat.le_of_ble_eq_true rfl⟩ ⟨Nat.le_refl _, Nat.le_refl _⟩ (rest := []) (Nat.le_of_ble_eq_true rfl) rfl dX2_bend_35 (fun H locs hM hS => ?_)
          refine W.eq (g2 := F0 m 38 ls []) rfl ?_
          refine lv_lload_n hx hb dX2_bend_38 rfl (lv_at hl 1 rfl) ?_
          refine lv_aload_n hx hb dX2_bend_39 rfl (lv_at hl 2 rfl) ?_
          refine mf41 X hM dX2_bend_40 ?_
          refine lv_aload_n hx hb dX2_bend_43 rfl (lv_at hl 2 rfl) ?_
          refine mf26 X hM dX2_bend_44 ?_
          refine lv_iload_n hx hb dX2_bend_47 rfl (lv_at hl 3 rfl) ?_
          refine m_aaB1 X hM rfl (by omega) dX2_bend_48 ?_
          refine lv_iload hx hb dX2_bend_49 (lv_at hl 0 rfl) ?_
          refine m_aaB2 X hM rfl (by omega) (by omega) dX2_bend_51 ?_
          refine lv_iconst (v := 0) hx hb dX2_bend_52 (by decide) ?_
          refine m_ldB X hM rfl (by omega) (by omega) (by decide) dX2_bend_53 ?_
          refine lv_lsub hx hb dX2_bend_54 ?_
          refine va_mabs_long hx hb (X.1.2.2.1.trans hl.1.symm) X.1.2.2.2.1 (X.1.2.2.2.2 _ q1640) (X.1.2.2.2.2 _ q1210) (X.1.2.2.2.2 _ q52) (X.1.2.2.2.2 _ q1211) (Nat.le_of_ble_eq_true rfl) (Nat.le_of_ble_eq_true rfl) (Nat.le_refl _) (Nat.le_refl _) dX2_bend_55 ?_
          refine W.eq (g2 := F0 m 58 ls [.long (l_abs ((ml (m_smooth ((m_bend t.toNatClampNeg i (m_first σ true, 0)).1) t.toNatClampNeg (mb σ 20 t.toNatClampNeg + i)) 41) - (mB (m_smooth ((m_bend t.toNatClampNeg i (m_first σ true, 0)).1) t.toNatClampNeg (mb σ 20 t.toNatClampNeg + i)) t.toNatClampNeg (mb σ 20 t.toNatClampNeg + i) 0))), .long ((m_bend t.toNatClampNeg i (m_first σ true, 0)).2)]) rfl ?_
          refine va_mmax_long hx hb (X.1.2.2.1.trans hl.1.symm) X.1.2.2.2.1 (X.1.2.2.2.2 _ q1489) (X.1.2.2.2.2 _ q570) (X.1.2.2.2.2 _ q52) (X.1.2.2.2.2 _ q571) (Nat.le_of_ble_eq_true rfl) (Nat.le_of_ble_eq_true rfl) (Nat.le_refl _) (Nat.le_refl _) dX2_bend_58 ?_
          refine W.eq (g2 := F0 m 61 ls [.long (l_max ((m_bend t.toNatClampNeg i (m_first σ true, 0)).2) (l_abs ((ml (m_smooth ((m_bend t.toNatClampNeg i (m_first σ true, 0)).1) t.toNatClampNeg (mb σ 20 t.toNatClampNeg + i)) 41) - (mB (m_smooth ((m_bend t.toNatClampNeg i (m_first σ true, 0)).1) t.toNatClampNeg (mb σ 20 t.toNatClampNeg + i)) t.toNatClampNeg (mb σ 20 t.toNatClampNeg + i) 0))))]) rfl ?_
          refine lv_lstore_n (lv' := [(2, .long (l_max ((m_bend t.toNatClampNeg i (m_first σ true, 0)).2) (l_abs ((ml (m_smooth ((m_bend t.toNatClampNeg i (m_first σ true, 0)).1) t.toNatClampNeg (mb σ 20 t.toNatClampNeg + i)) 41) - (mB (m_smooth ((m_bend t.toNatClampNeg i (m_first σ true, 0)).1) t.toNatClampNeg (mb σ 20 t.toNatClampNeg + i)) t.toNatClampNeg (mb σ 20 t.toNatClampNeg + i) 0))))), (4, .int (nI (mb σ 20 t.toNatClampNeg + i))), (0, .ref (mo)), (1, .int (nI (t.toNatClampNeg)))]) hx hb dX2_bend_61 rfl hl (by decide) rfl (fun ls hl => ?_)
          refine lv_iinc (v := nI (mb σ 20 t.toNatClampNeg + i + 1)) (lv' := [(4, .int (nI (mb σ 20 t.toNatClampNeg + i + 1))), (2, .long (l_max ((m_bend t.toNatClampNeg i (m_first σ true, 0)).2) (l_abs ((ml (m_smooth ((m_bend t.toNatClampNeg i (m_first σ true, 0)).1) t.toNatClampNeg (mb σ 20 t.toNatClampNeg + i)) 41) - (mB (m_smooth ((m_bend t.toNatClampNeg i (m_first σ true, 0)).1) t.toNatClampNeg (mb σ 20 t.toNatClampNeg + i)) t.toNatClampNeg (mb σ 20 t.toNatClampNeg + i) 0))))), (0, .ref (mo)), (1, .int (nI (t.toNatClampNeg)))]) hx hb dX2_bend_62 hl (k := 1) rfl (n_add (a := mb σ 20 t.toNatClampNeg + i) (b := 1) rfl rfl) (by decide) rfl (fun ls hl => ?_)
          refine lv_goto (tgt := 20) hx hb dX2_bend_65 (by decide) ?_
          have e_2 : m_bend t.toNatClampNeg (i + 1) (m_first σ true, 0) = (m_smooth ((m_bend t.toNatClampNeg i (m_first σ true, 0)).1) t.toNatClampNeg (mb σ 20 t.toNatClampNeg + i), l_max ((m_bend t.toNatClampNeg i (m_first σ true, 0)).2) (l_abs ((ml (m_smooth ((m_bend t.toNatClampNeg i (m_first σ true, 0)).1) t.toNatClampNeg (mb σ 20 t.toNatClampNeg + i)) 41) - (mB (m_smooth ((m_bend t.toNatClampNeg i (m_first σ true, 0)).1) t.toNatClampNeg (mb σ 20 t.toNatClampNeg + i)) t.toNatClampNeg (mb σ 20 t.toNatClampNeg + i) 0)))) := by simp [m_bend, mb_m_bend, mb_m_first, mb_m_smooth]
          have e_3 : l_max ((m_bend t.toNatClampNeg i (m_first σ true, 0)).2) (l_abs ((ml (m_smooth ((m_bend t.toNatClampNeg i (m_first σ true, 0)).1) t.toNatClampNeg (mb σ 20 t.toNatClampNeg + i)) 41) - (mB (m_smooth ((m_bend t.toNatClampNeg i (m_first σ true, 0)).1) t.toNatClampNeg (mb σ 20 t.toNatClampNeg + i)) t.toNatClampNeg (mb σ 20 t.toNatClampNeg + i) 0))) = (m_bend t.toNatClampNeg (i + 1) (m_first σ true, 0)).2 := by rw [e_2]
          have e_4 : m_smooth ((m_bend t.toNatClampNeg i (m_first σ true, 0)).1) t.toNatClampNeg (mb σ 20 t.toNatClampNeg + i) = (m_bend t.toNatClampNeg (i + 1) (m_first σ true, 0)).1 := by rw [e_2]
          rw [e_3] at hl
          rw [e_4] at hM
          exact ih_20 (i + 1) H locs ls (by omega) hM hS (lv_sub hl [0, 1, 2, 3] rfl)
    exact loop_20 (mb σ 21 t.toNatClampNeg - mb σ 20 t.toNatClampNeg + 1) 0 _ _ ls (by omega) hM hS (lv_sub hl [0, 1, 2, 3] rfl)
  · skip
    rw [c_5] at hM
    refine lv_lconst (v := 0) hx hb dX2_bend_8 rfl ?_
    exact m_lret X hr hM hS (by rw [if_neg (by rw [c_5]; decide)]) (by rw [if_neg (by rw [c_5]; decide)]) (Nat.le_refl _) (Nat.le_refl _) dX2_bend_9
set_option maxHeartbeats 4000000 in
set_option maxRecDepth 100000 in
/-- alive -/
theorem met_X2_alive (l : Launch) (K : gK) (mo : Nat) (A : mA) (σ : mS) (h15 : mn σ 15 ≤ 40) : mMet l K mo A yX2_alive cX2_alive 1 (some .int) 1 38 [] σ (some (.int (nI (m_alive σ)))) (m_tell σ) := by
  intro G hR0
  refine gMet.of (by decide) (Nat.le_of_ble_eq_true rfl) (fun p e s m below meth c ls hx hb X hr hin hG hS hl => ?_)
  have X : gC K p s m _ meth c cX2_alive 1 "KalmanQuayModel" := X
  have hM := mPre hR0 hG
  have hl : lv_has ls 1 [(0, .ref (mo))] := hl
  refine lv_aload_n hx hb dX2_alive_0 rfl (lv_at hl 0 rfl) ?_
  refine lv_aload_n hx hb dX2_alive_1 rfl (lv_at hl 0 rfl) ?_
  refine m_call X (met_X2_aliveNow l K mo A σ  (by omega)) gp_X2_aliveNow rfl q1531 q1533 qs27 q42 q1534 hM hS hl ⟨Nat.le_of_ble_eq_true rfl, Nat.le_of_ble_eq_true rfl⟩ ⟨Nat.le_refl _, Nat.le_refl _⟩ (rest := [.ref (mo)]) (Nat.le_of_ble_eq_true rfl) rfl dX2_alive_2 (fun H locs hM hS => ?_)
  refine W.eq (g2 := F0 m 5 ls [.int (nI (m_alive σ)), .ref (mo)]) rfl ?_
  refine m_call X (met_X2_tell l K mo A σ (m_alive σ) ) gp_X2_tell rfl q1424 q1426 qs13 q42 q1427 hM hS hl ⟨Nat.le_of_ble_eq_true rfl, Nat.le_of_ble_eq_true rfl⟩ ⟨Nat.le_refl _, Nat.le_refl _⟩ (rest := []) (Nat.le_of_ble_eq_true rfl) rfl dX2_alive_5 (fun H locs hM hS => ?_)
  refine W.eq (g2 := F0 m 8 ls [.int (nI (m_alive σ))]) rfl ?_
  exact m_iret X hr hM hS rfl rfl (Nat.le_refl _) (Nat.le_refl _) dX2_alive_8
set_option maxHeartbeats 4000000 in
set_option maxRecDepth 100000 in
/-- assignedShare -/
theorem met_X2_assignedShare (l : Launch) (K : gK) (mo : Nat) (A : mA) (σ : mS) (h13 : mn σ 13 < 2147483648) (hf : ¬ mn σ 13 = 0 → vf_n32 (FP.fdiv (FP.i2f (nI (mn σ 14))) (FP.i2f (nI (mn σ 13))))) : mMet l K mo A yX2_assignedShare cX2_assignedShare 1 (some .float) 0 0 [] σ (some (.float (if mn σ 13 = 0 then FP.fconst0 else FP.fdiv (FP.i2f (nI (mn σ 14))) (FP.i2f (nI (mn σ 13)))))) (m_tell σ) := by
  intro G hR0
  refine gMet.of (by decide) (Nat.le_of_ble_eq_true rfl) (fun p e s m below meth c ls hx hb X hr hin hG hS hl => ?_)
  have X : gC K p s m _ meth c cX2_assignedShare 1 "KalmanQuayModel" := X
  have hM := mPre hR0 hG
  have hl : lv_has ls 1 [(0, .ref (mo))] := hl
  refine lv_aload_n hx hb dX2_assignedShare_0 rfl (lv_at hl 0 rfl) ?_
  refine lv_iconst (v := 0) hx hb dX2_assignedShare_1 (by decide) ?_
  refine mp43 X hM hS (v := 0) rfl dX2_assignedShare_2 (fun H locs hM hS => ?_)
  refine lv_aload_n hx hb dX2_assignedShare_5 rfl (lv_at hl 0 rfl) ?_
  refine mf13 X hM dX2_assignedShare_6 ?_
  refine g_topE (z := nI (mn σ 13)) (by simp [mn_sn]) ?_
  refine g_ifn_ne hx hb 16 dX2_assignedShare_9 (by decide) (a := mn σ 13) rfl (by omega) (fun c_9 => ?_) (fun c_9 => ?_)
  · skip
    refine lv_aload_n hx hb dX2_assignedShare_16 rfl (lv_at hl 0 rfl) ?_
    refine mf14 X hM dX2_assignedShare_17 ?_
    refine g_topE (z := nI (mn σ 14)) (by simp [mn_sn]) ?_
    refine lv_i2f hx hb dX2_assignedShare_20 ?_
    refine lv_aload_n hx hb dX2_assignedShare_21 rfl (lv_at hl 0 rfl) ?_
    refine mf13 X hM dX2_assignedShare_22 ?_
    refine g_topE (z := nI (mn σ 13)) (by simp [mn_sn]) ?_
    refine lv_i2f hx hb dX2_assignedShare_25 ?_
    refine lv_fdiv hx hb dX2_assignedShare_26 (hf c_9) ?_
    exact m_fret X hr hM hS (by rw [if_neg c_9]) rfl (Nat.le_refl _) (Nat.le_refl _) dX2_assignedShare_27
  · skip
    refine lv_fconst0 hx hb dX2_assignedShare_12 ?_
    refine lv_goto (tgt := 27) hx hb dX2_assignedShare_13 (by decide) ?_
    exact m_fret X hr hM hS (by rw [if_pos c_9]) rfl (Nat.le_refl _) (Nat.le_refl _) dX2_assignedShare_27
set_option maxHeartbeats 4000000 in
set_option maxRecDepth 100000 in
/-- meanLength -/
theorem met_X2_meanLength (l : Launch) (K : gK) (mo : Nat) (A : mA) (σ : mS) (h15 : mn σ 15 ≤ 40) (hE : ∀ t, t < mn σ 15 → mb σ 20 t ≤ mb σ 21 t ∧ mb σ 21 t < 64) (hf : ¬ mn σ 15 = 0 → vf_n64 (FP.ddiv (FP.i2d (nI (m_sum (m_len σ) (mn σ 15)))) (FP.i2d (nI (mn σ 15))))) : mMet l K mo A yX2_meanLength cX2_meanLength 3 (some .double) 0 0 [] σ (some (.double (if mn σ 15 = 0 then FP.dconst0 else FP.ddiv (FP.i2d (nI (m_sum (m_len σ) (mn σ 15)))) (FP.i2d (nI (mn σ 15)))))) (m_tell σ) := by
  intro G hR0
  refine gMet.of (by decide) (Nat.le_of_ble_eq_true rfl) (fun p e s m below meth c ls hx hb X hr hin hG hS hl => ?_)
  have X : gC K p s m _ meth c cX2_meanLength 3 "KalmanQuayModel" := X
  have hM := mPre hR0 hG
  have hl : lv_has ls 3 [(0, .ref (mo))] := hl
  refine lv_aload_n hx hb dX2_meanLength_0 rfl (lv_at hl 0 rfl) ?_
  refine lv_iconst (v := 0) hx hb dX2_meanLength_1 (by decide) ?_
  refine mp43 X hM hS (v := 0) rfl dX2_meanLength_2 (fun H locs hM hS => ?_)
  refine lv_iconst (v := 0) hx hb dX2_meanLength_5 (by decide) ?_
  refine lv_istore_n (lv' := [(1, .int (0)), (0, .ref (mo))]) hx hb dX2_meanLength_6 rfl hl (by decide) rfl (fun ls hl => ?_)
  refine lv_iconst (v := 0) hx hb dX2_meanLength_7 (by decide) ?_
  refine lv_istore_n (lv' := [(2, .int (0)), (1, .int (0)), (0, .ref (mo))]) hx hb dX2_meanLength_8 rfl hl (by decide) rfl (fun ls hl => ?_)
  have loop_9 : ∀ (n i : Nat) (H : Heap) (locs : List Loc) (ls : Array Slot), i + n = mn σ 15 → mH K mo A (sn σ 43 (0)) G H → va_S (gA K) s.heap H locs → lv_has ls 3 [(2, .int (nI (i))), (1, .int (nI (m_sum (m_len σ) i))), (0, .ref (mo))] → W p l e ({ frames := 0, cells := 0, slots := 0, locals := 0 } : Room) s m ([.ref (mo)] : List Value).toArray below meth c H locs 0 0 (MQ below (gQ K (fun w G1 => w = (some (.double (if mn σ 15 = 0 then FP.dconst0 else FP.ddiv (FP.i2d (nI (m_sum (m_len σ) (mn σ 15)))) (FP.i2d (nI (mn σ 15)))))) ∧ mR K mo A (m_tell σ) G1 ∧ gF mT G G1)) ([.ref (mo)] : List Value).toArray s 0 0 (gA K)) (F0 m 9 ls []) := by
    intro n
    induction n with
    | zero =>
      intro i H locs ls hi_9 hM hS hl
      refine lv_iload_n hx hb dX2_meanLength_9 rfl (lv_at hl 0 rfl) ?_
      refine lv_aload_n hx hb dX2_meanLength_10 rfl (lv_at hl 2 rfl) ?_
      refine mf15 X hM dX2_meanLength_11 ?_
      refine g_topE (z := nI (mn σ 15)) (by simp [mn_sn]) ?_
      refine g_icmp_ge hx hb 41 dX2_meanLength_14 (by decide) (a := i) (b := mn σ 15) rfl rfl (by omega) (by omega) (fun c_14 => ?_) (fun c_14 => ?_)
      · skip
        refine lv_aload_n hx hb dX2_meanLength_41 rfl (lv_at hl 2 rfl) ?_
        refine mf15 X hM dX2_meanLength_42 ?_
        refine g_topE (z := nI (mn σ 15)) (by simp [mn_sn]) ?_
        refine g_ifn_ne hx hb 52 dX2_meanLength_45 (by decide) (a := mn σ 15) rfl (by omega) (fun c_45 => ?_) (fun c_45 => ?_)
        · skip
          refine lv_iload_n hx hb dX2_meanLength_52 rfl (lv_at hl 1 rfl) ?_
          refine lv_i2d hx hb dX2_meanLength_53 ?_
          refine lv_aload_n hx hb dX2_meanLength_54 rfl (lv_at hl 2 rfl) ?_
          refine mf15 X hM dX2_meanLength_55 ?_
          refine g_topE (z := nI (mn σ 15)) (by simp [mn_sn]) ?_
          refine lv_i2d hx hb dX2_meanLength_58 ?_
          refine lv_ddiv hx hb dX2_meanLength_59 (by rw [show i = mn σ 15 by omega]; exact hf c_45) ?_
          exact m_dret X hr hM hS (by rw [if_neg c_45, show i = mn σ 15 by omega]) rfl (Nat.le_refl _) (Nat.le_refl _) dX2_meanLength_60
        · skip
          refine lv_dconst0 hx hb dX2_meanLength_48 ?_
          refine lv_goto (tgt := 60) hx hb dX2_meanLength_49 (by decide) ?_
          exact m_dret X hr hM hS (by rw [if_pos c_45]) rfl (Nat.le_refl _) (Nat.le_refl _) dX2_meanLength_60
      · skip
        exact absurd c_14 (by omega)
    | succ n ih_9 =>
      intro i H locs ls hi_9 hM hS hl
      have hE1 := hE i (by omega)
      refine lv_iload_n hx hb dX2_meanLength_9 rfl (lv_at hl 0 rfl) ?_
      refine lv_aload_n hx hb dX2_meanLength_10 rfl (lv_at hl 2 rfl) ?_
      refine mf15 X hM dX2_meanLength_11 ?_
      refine g_topE (z := nI (mn σ 15)) (by simp [mn_sn]) ?_
      refine g_icmp_ge hx hb 41 dX2_meanLength_14 (by decide) (a := i) (b := mn σ 15) rfl rfl (by omega) (by omega) (fun c_14 => ?_) (fun c_14 => ?_)
      · skip
        exact absurd c_14 (by omega)
      · skip
        refine lv_iload_n hx hb dX2_meanLength_17 rfl (lv_at hl 1 rfl) ?_
        refine lv_aload_n hx hb dX2_meanLength_18 rfl (lv_at hl 2 rfl) ?_
        refine mf21 X hM dX2_meanLength_19 ?_
        refine lv_iload_n hx hb dX2_meanLength_22 rfl (lv_at hl 0 rfl) ?_
        refine m_ldb X hM 21 40 rfl rfl (by omega) (by decide) dX2_meanLength_23 ?_
        refine g_topE (z := nI (mb σ 21 i)) (by simp [mb_sn]) ?_
        refine lv_aload_n hx hb dX2_meanLength_24 rfl (lv_at hl 2 rfl) ?_
        refine mf20 X hM dX2_meanLength_25 ?_
        refine lv_iload_n hx hb dX2_meanLength_28 rfl (lv_at hl 0 rfl) ?_
        refine m_ldb X hM 20 40 rfl rfl (by omega) (by decide) dX2_meanLength_29 ?_
        refine g_topE (z := nI (mb σ 20 i)) (by simp [mb_sn]) ?_
        refine lv_isub hx hb dX2_meanLength_30 ?_
        refine g_topN (n_sub (a := mb σ 21 i) (b := mb σ 20 i) rfl rfl (by omega)) ?_
        refine lv_iconst (v := 1) hx hb dX2_meanLength_31 (by decide) ?_
        refine lv_iadd hx hb dX2_meanLength_32 ?_
        refine g_topN (n_add (a := (mb σ 21 i) - (mb σ 20 i)) (b := 1) rfl rfl) ?_
        refine lv_iadd hx hb dX2_meanLength_33 ?_
        refine g_topN (n_add (a := m_sum (m_len σ) i) (b := ((mb σ 21 i) - (mb σ 20 i)) + 1) rfl rfl) ?_
        refine lv_istore_n (lv' := [(1, .int (nI ((m_sum (m_len σ) i) + (((mb σ 21 i) - (mb σ 20 i)) + 1)))), (2, .int (nI (i))), (0, .ref (mo))]) hx hb dX2_meanLength_34 rfl hl (by decide) rfl (fun ls hl => ?_)
        refine lv_iinc (v := nI (i + 1)) (lv' := [(2, .int (nI (i + 1))), (1, .int (nI ((m_sum (m_len σ) i) + (((mb σ 21 i) - (mb σ 20 i)) + 1)))), (0, .ref (mo))]) hx hb dX2_meanLength_35 hl (k := 1) rfl (n_add (a := i) (b := 1) rfl rfl) (by decide) rfl (fun ls hl => ?_)
        refine lv_goto (tgt := 9) hx hb dX2_meanLength_38 (by decide) ?_
        exact ih_9 (i + 1) H locs ls (by omega) hM hS (lv_sub hl [0, 1, 2] rfl)
  exact loop_9 (mn σ 15) 0 _ _ ls (by omega) hM hS (lv_sub hl [0, 1, 2] rfl)
