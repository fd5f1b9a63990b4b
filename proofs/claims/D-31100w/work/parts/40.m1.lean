/-! the reference: small methods -/
set_option maxRecDepth 100000
theorem gp_X2_apartOf : gPar yX2_apartOf 2 := ⟨⟨by decide, by decide⟩, by decide +kernel⟩
theorem gp_X2_claim : gPar yX2_claim 2 := ⟨⟨by decide, by decide⟩, by decide +kernel⟩
theorem gp_X2_claimFirst : gPar yX2_claimFirst 1 := ⟨⟨by decide, by decide⟩, by decide +kernel⟩
theorem gp_X2_hold : gPar yX2_hold 3 := ⟨⟨by decide, by decide⟩, by decide +kernel⟩
theorem gp_X2_in : gPar yX2_in 3 := ⟨⟨by decide, by decide⟩, by decide +kernel⟩
theorem gp_X2_spread : gPar yX2_spread 2 := ⟨⟨by decide, by decide⟩, by decide +kernel⟩
theorem gp_X2_tell : gPar yX2_tell 1 := ⟨⟨by decide, by decide⟩, by decide +kernel⟩
/-- floorDiv -/
theorem met_J11_floorDiv (l : Launch) (K : gK) (x y : Int64) (hy : ¬ y = 0) : pMet l K yJ11_floorDiv cJ11_floorDiv 6 (some .long) 0 0 [.long (x), .long (y)] (some (.long (l_fdiv x y))) := by
  intro G
  refine gMet.ofF (by decide +kernel) (Nat.le_of_ble_eq_true rfl) (fun p e s m below meth c ls hx hb X hr hin hG hS hl => ?_)
  have X : gC K p s m _ meth c cJ11_floorDiv 6 "java/lang/Math" := X
  have hl : lv_has ls 6 [(0, .long (x)), (2, .long (y))] := hl
  refine lv_lload_n hx hb dJ11_floorDiv_0 rfl (lv_at hl 0 rfl) ?_
  refine lv_lload_n hx hb dJ11_floorDiv_1 rfl (lv_at hl 1 rfl) ?_
  refine lv_ldiv hx hb dJ11_floorDiv_2 hy ?_
  refine lv_lstore (lv' := [(4, .long (x / y)), (0, .long (x)), (2, .long (y))]) hx hb dJ11_floorDiv_3 hl (by decide) rfl (fun ls hl => ?_)
  refine lv_lload_n hx hb dJ11_floorDiv_5 rfl (lv_at hl 1 rfl) ?_
  refine lv_lload_n hx hb dJ11_floorDiv_6 rfl (lv_at hl 2 rfl) ?_
  refine lv_lxor hx hb dJ11_floorDiv_7 ?_
  refine lv_lconst (v := 0) hx hb dJ11_floorDiv_8 rfl ?_
  refine g_lif_ge hx hb 27 dJ11_floorDiv_9 dJ11_floorDiv_10 (by decide) (fun c_9 => ?_) (fun c_9 => ?_)
  · skip
    refine lv_lload hx hb dJ11_floorDiv_27 (lv_at hl 0 rfl) ?_
    exact g_lret X hr hG hS ⟨(by rw [l_fdiv, if_neg (fun q => absurd q.1 (Int64.not_lt.mpr c_9))]), rfl⟩ (Nat.le_refl _) (Nat.le_refl _) dJ11_floorDiv_29
  · skip
    refine lv_lload hx hb dJ11_floorDiv_13 (lv_at hl 0 rfl) ?_
    refine lv_lload_n hx hb dJ11_floorDiv_15 rfl (lv_at hl 2 rfl) ?_
    refine lv_lmul hx hb dJ11_floorDiv_16 ?_
    refine lv_lload_n hx hb dJ11_floorDiv_17 rfl (lv_at hl 1 rfl) ?_
    refine g_lif_eq hx hb 27 dJ11_floorDiv_18 dJ11_floorDiv_19 (by decide) (fun c_18 => ?_) (fun c_18 => ?_)
    · skip
      refine lv_lload hx hb dJ11_floorDiv_27 (lv_at hl 0 rfl) ?_
      exact g_lret X hr hG hS ⟨(by rw [l_fdiv, if_neg (fun q => q.2 c_18)]), rfl⟩ (Nat.le_refl _) (Nat.le_refl _) dJ11_floorDiv_29
    · skip
      refine lv_lload hx hb dJ11_floorDiv_22 (lv_at hl 0 rfl) ?_
      refine lv_lconst (v := 1) hx hb dJ11_floorDiv_24 rfl ?_
      refine lv_lsub hx hb dJ11_floorDiv_25 ?_
      exact g_lret X hr hG hS ⟨(by rw [l_fdiv, if_pos ⟨Int64.not_le.mp c_9, c_18⟩]), rfl⟩ (Nat.le_refl _) (Nat.le_refl _) dJ11_floorDiv_26
/-- in -/
theorem met_X2_in (l : Launch) (K : gK) (n lo hi : Int32) : pMet l K yX2_in cX2_in 3 (some .boolean) 0 0 [.int (n), .int (lo), .int (hi)] (some (.int (gb (m_in n lo hi)))) := by
  intro G
  refine gMet.of (by decide) (Nat.le_of_ble_eq_true rfl) (fun p e s m below meth c ls hx hb X hr hin hG hS hl => ?_)
  have X : gC K p s m _ meth c cX2_in 3 "KalmanQuayModel" := X
  have hl : lv_has ls 3 [(0, .int (n)), (1, .int (lo)), (2, .int (hi))] := hl
  refine lv_iload_n hx hb dX2_in_0 rfl (lv_at hl 1 rfl) ?_
  refine lv_iload_n hx hb dX2_in_1 rfl (lv_at hl 0 rfl) ?_
  refine lv_icmp_gt (tgt := 14) hx hb dX2_in_2 (by decide) (fun c_2 => ?_) (fun c_2 => ?_)
  · skip
    refine lv_iconst (v := 0) hx hb dX2_in_14 (by decide) ?_
    exact g_zret X hr hG hS rfl ⟨(by rw [in_f1 c_2]; rfl), rfl⟩ (Nat.le_refl _) (Nat.le_refl _) dX2_in_15
  · skip
    refine lv_iload_n hx hb dX2_in_5 rfl (lv_at hl 0 rfl) ?_
    refine lv_iload_n hx hb dX2_in_6 rfl (lv_at hl 2 rfl) ?_
    refine lv_icmp_gt (tgt := 14) hx hb dX2_in_7 (by decide) (fun c_7 => ?_) (fun c_7 => ?_)
    · skip
      refine lv_iconst (v := 0) hx hb dX2_in_14 (by decide) ?_
      exact g_zret X hr hG hS rfl ⟨(by rw [in_f2 c_7]; rfl), rfl⟩ (Nat.le_refl _) (Nat.le_refl _) dX2_in_15
    · skip
      refine lv_iconst (v := 1) hx hb dX2_in_10 (by decide) ?_
      refine lv_goto (tgt := 15) hx hb dX2_in_11 (by decide) ?_
      exact g_zret X hr hG hS rfl ⟨(by rw [in_t c_2 c_7]; rfl), rfl⟩ (Nat.le_refl _) (Nat.le_refl _) dX2_in_15
/-- hold -/
theorem met_X2_hold (l : Launch) (K : gK) (v lo hi : Int64) : pMet l K yX2_hold cX2_hold 6 (some .long) 1 40 [.long (v), .long (lo), .long (hi)] (some (.long (l_hold v lo hi))) := by
  intro G
  refine gMet.of (by decide) (Nat.le_of_ble_eq_true rfl) (fun p e s m below meth c ls hx hb X hr hin hG hS hl => ?_)
  have X : gC K p s m _ meth c cX2_hold 6 "KalmanQuayModel" := X
  have hl : lv_has ls 6 [(0, .long (v)), (2, .long (lo)), (4, .long (hi))] := hl
  refine lv_lload_n hx hb dX2_hold_0 rfl (lv_at hl 1 rfl) ?_
  refine lv_lload hx hb dX2_hold_1 (lv_at hl 2 rfl) ?_
  refine lv_lload_n hx hb dX2_hold_3 rfl (lv_at hl 0 rfl) ?_
  refine va_mmin_long hx hb (X.1.2.2.1.trans hl.1.symm) X.1.2.2.2.1 (X.1.2.2.2.2 _ q1488) (X.1.2.2.2.2 _ q567) (X.1.2.2.2.2 _ q52) (X.1.2.2.2.2 _ q568) (Nat.le_of_ble_eq_true rfl) (Nat.le_of_ble_eq_true rfl) (Nat.le_refl _) (Nat.le_refl _) dX2_hold_4 ?_
  refine W.eq (g2 := F0 m 7 ls [.long (l_min hi v), .long (lo)]) rfl ?_
  refine va_mmax_long hx hb (X.1.2.2.1.trans hl.1.symm) X.1.2.2.2.1 (X.1.2.2.2.2 _ q1489) (X.1.2.2.2.2 _ q570) (X.1.2.2.2.2 _ q52) (X.1.2.2.2.2 _ q571) (Nat.le_of_ble_eq_true rfl) (Nat.le_of_ble_eq_true rfl) (Nat.le_refl _) (Nat.le_refl _) dX2_hold_7 ?_
  refine W.eq (g2 := F0 m 10 ls [.long (l_max lo (l_min hi v))]) rfl ?_
  exact g_lret X hr hG hS ⟨rfl, rfl⟩ (Nat.le_refl _) (Nat.le_refl _) dX2_hold_10
set_option maxHeartbeats 4000000 in
set_option maxRecDepth 100000 in
/-- thrown -/
theorem met_X2_thrown (l : Launch) (K : gK) (mo : Nat) (A : mA) (σ : mS)  : mMet l K mo A yX2_thrown cX2_thrown 1 (some .int) 0 0 [] σ (some (.int (nI (mn σ 43)))) (σ) := by
  intro G hR0
  refine gMet.of (by decide) (Nat.le_of_ble_eq_true rfl) (fun p e s m below meth c ls hx hb X hr hin hG hS hl => ?_)
  have X : gC K p s m _ meth c cX2_thrown 1 "KalmanQuayModel" := X
  have hM := mPre hR0 hG
  have hl : lv_has ls 1 [(0, .ref (mo))] := hl
  refine lv_aload_n hx hb dX2_thrown_0 rfl (lv_at hl 0 rfl) ?_
  refine mf43 X hM dX2_thrown_1 ?_
  exact m_iret X hr hM hS rfl rfl (Nat.le_refl _) (Nat.le_refl _) dX2_thrown_4
set_option maxHeartbeats 4000000 in
set_option maxRecDepth 100000 in
/-- tell -/
theorem met_X2_tell (l : Launch) (K : gK) (mo : Nat) (A : mA) (σ : mS) (n : Nat) : mMet l K mo A yX2_tell cX2_tell 2 (some .int) 0 0 [.int (nI (n))] σ (some (.int (nI n))) (m_tell σ) := by
  intro G hR0
  refine gMet.of (by decide) (Nat.le_of_ble_eq_true rfl) (fun p e s m below meth c ls hx hb X hr hin hG hS hl => ?_)
  have X : gC K p s m _ meth c cX2_tell 2 "KalmanQuayModel" := X
  have hM := mPre hR0 hG
  have hl : lv_has ls 2 [(0, .ref (mo)), (1, .int (nI (n)))] := hl
  refine lv_aload_n hx hb dX2_tell_0 rfl (lv_at hl 0 rfl) ?_
  refine lv_iconst (v := 0) hx hb dX2_tell_1 (by decide) ?_
  refine mp43 X hM hS (v := 0) rfl dX2_tell_2 (fun H locs hM hS => ?_)
  refine lv_iload_n hx hb dX2_tell_5 rfl (lv_at hl 1 rfl) ?_
  exact m_iret X hr hM hS rfl rfl (Nat.le_refl _) (Nat.le_refl _) dX2_tell_6
set_option maxHeartbeats 4000000 in
set_option maxRecDepth 100000 in
/-- claim -/
theorem met_X2_claim (l : Launch) (K : gK) (mo : Nat) (A : mA) (σ : mS) (b : Bool) (k : Nat) : mMet l K mo A yX2_claim cX2_claim 3 (some .boolean) 0 0 [.int (gb b), .int (nI (k))] σ (some (.int (gb b))) (m_claim σ b k) := by
  intro G hR0
  refine gMet.of (by decide) (Nat.le_of_ble_eq_true rfl) (fun p e s m below meth c ls hx hb X hr hin hG hS hl => ?_)
  have X : gC K p s m _ meth c cX2_claim 3 "KalmanQuayModel" := X
  have hM := mPre hR0 hG
  have hl : lv_has ls 3 [(0, .ref (mo)), (1, .int (gb b)), (2, .int (nI (k)))] := hl
  refine lv_iload_n hx hb dX2_claim_0 rfl (lv_at hl 1 rfl) ?_
  refine g_ifb_ne hx hb 9 dX2_claim_1 (by decide) (fun c_1 => ?_) (fun c_1 => ?_)
  · skip
    refine lv_iload_n hx hb dX2_claim_9 rfl (lv_at hl 1 rfl) ?_
    exact m_zret X hr hM hS (gb_nar _) rfl (by subst c_1; rfl) (Nat.le_refl _) (Nat.le_refl _) dX2_claim_10
  · skip
    refine lv_aload_n hx hb dX2_claim_4 rfl (lv_at hl 0 rfl) ?_
    refine lv_iload_n hx hb dX2_claim_5 rfl (lv_at hl 2 rfl) ?_
    refine mp43 X hM hS (v := k) rfl dX2_claim_6 (fun H locs hM hS => ?_)
    refine lv_iload_n hx hb dX2_claim_9 rfl (lv_at hl 1 rfl) ?_
    exact m_zret X hr hM hS (gb_nar _) rfl (by subst c_1; rfl) (Nat.le_refl _) (Nat.le_refl _) dX2_claim_10
set_option maxHeartbeats 4000000 in
set_option maxRecDepth 100000 in
/-- claimFirst -/
theorem met_X2_claimFirst (l : Launch) (K : gK) (mo : Nat) (A : mA) (σ : mS) (b : Bool) : mMet l K mo A yX2_claimFirst cX2_claimFirst 2 (some .boolean) 1 38 [.int (gb b)] σ (some (.int (gb b))) (m_first σ b) := by
  intro G hR0
  refine gMet.of (by decide) (Nat.le_of_ble_eq_true rfl) (fun p e s m below meth c ls hx hb X hr hin hG hS hl => ?_)
  have X : gC K p s m _ meth c cX2_claimFirst 2 "KalmanQuayModel" := X
  have hM := mPre hR0 hG
  have hl : lv_has ls 2 [(0, .ref (mo)), (1, .int (gb b))] := hl
  refine lv_aload_n hx hb dX2_claimFirst_0 rfl (lv_at hl 0 rfl) ?_
  refine lv_iconst (v := 0) hx hb dX2_claimFirst_1 (by decide) ?_
  refine mp43 X hM hS (v := 0) rfl dX2_claimFirst_2 (fun H locs hM hS => ?_)
  refine lv_aload_n hx hb dX2_claimFirst_5 rfl (lv_at hl 0 rfl) ?_
  refine lv_iload_n hx hb dX2_claimFirst_6 rfl (lv_at hl 1 rfl) ?_
  refine lv_iconst (v := 1) hx hb dX2_claimFirst_7 (by decide) ?_
  refine m_call X (met_X2_claim l K mo A (sn σ 43 (0)) b 1 ) gp_X2_claim rfl q1439 q1441 qs15 q42 q1442 hM hS hl ⟨Nat.le_of_ble_eq_true rfl, Nat.le_of_ble_eq_true rfl⟩ ⟨Nat.le_refl _, Nat.le_refl _⟩ (rest := []) (Nat.le_of_ble_eq_true rfl) rfl dX2_claimFirst_8 (fun H locs hM hS => ?_)
  refine W.eq (g2 := F0 m 11 ls [.int (gb b)]) rfl ?_
  exact m_zret X hr hM hS (gb_nar _) rfl rfl (Nat.le_refl _) (Nat.le_refl _) dX2_claimFirst_11
set_option maxHeartbeats 4000000 in
set_option maxRecDepth 100000 in
/-- sensorCount -/
theorem met_X2_sensorCount (l : Launch) (K : gK) (mo : Nat) (A : mA) (σ : mS)  : mMet l K mo A yX2_sensorCount cX2_sensorCount 1 (some .int) 1 37 [] σ (some (.int (nI (mn σ 5)))) (m_tell σ) := by
  intro G hR0
  refine gMet.of (by decide) (Nat.le_of_ble_eq_true rfl) (fun p e s m below meth c ls hx hb X hr hin hG hS hl => ?_)
  have X : gC K p s m _ meth c cX2_sensorCount 1 "KalmanQuayModel" := X
  have hM := mPre hR0 hG
  have hl : lv_has ls 1 [(0, .ref (mo))] := hl
  refine lv_aload_n hx hb dX2_sensorCount_0 rfl (lv_at hl 0 rfl) ?_
  refine lv_aload_n hx hb dX2_sensorCount_1 rfl (lv_at hl 0 rfl) ?_
  refine mf5 X hM dX2_sensorCount_2 ?_
  refine m_call X (met_X2_tell l K mo A σ (mn σ 5) ) gp_X2_tell rfl q1424 q1426 qs13 q42 q1427 hM hS hl ⟨Nat.le_of_ble_eq_true rfl, Nat.le_of_ble_eq_true rfl⟩ ⟨Nat.le_refl _, Nat.le_refl _⟩ (rest := []) (Nat.le_of_ble_eq_true rfl) rfl dX2_sensorCount_5 (fun H locs hM hS => ?_)
  refine W.eq (g2 := F0 m 8 ls [.int (nI (mn σ 5))]) rfl ?_
  exact m_iret X hr hM hS rfl rfl (Nat.le_refl _) (Nat.le_refl _) dX2_sensorCount_8
set_option maxHeartbeats 4000000 in
set_option maxRecDepth 100000 in
/-- hits -/
theorem met_X2_hits (l : Launch) (K : gK) (mo : Nat) (A : mA) (σ : mS)  : mMet l K mo A yX2_hits cX2_hits 1 (some .int) 1 37 [] σ (some (.int (nI (mn σ 8)))) (m_tell σ) := by
  intro G hR0
  refine gMet.of (by decide) (Nat.le_of_ble_eq_true rfl) (fun p e s m below meth c ls hx hb X hr hin hG hS hl => ?_)
  have X : gC K p s m _ meth c cX2_hits 1 "KalmanQuayModel" := X
  have hM := mPre hR0 hG
  have hl : lv_has ls 1 [(0, .ref (mo))] := hl
  refine lv_aload_n hx hb dX2_hits_0 rfl (lv_at hl 0 rfl) ?_
  refine lv_aload_n hx hb dX2_hits_1 rfl (lv_at hl 0 rfl) ?_
  refine mf8 X hM dX2_hits_2 ?_
  refine m_call X (met_X2_tell l K mo A σ (mn σ 8) ) gp_X2_tell rfl q1424 q1426 qs13 q42 q1427 hM hS hl ⟨Nat.le_of_ble_eq_true rfl, Nat.le_of_ble_eq_true rfl⟩ ⟨Nat.le_refl _, Nat.le_refl _⟩ (rest := []) (Nat.le_of_ble_eq_true rfl) rfl dX2_hits_5 (fun H locs hM hS => ?_)
  refine W.eq (g2 := F0 m 8 ls [.int (nI (mn σ 8))]) rfl ?_
  exact m_iret X hr hM hS rfl rfl (Nat.le_refl _) (Nat.le_refl _) dX2_hits_8
set_option maxHeartbeats 4000000 in
set_option maxRecDepth 100000 in
/-- beatCount -/
theorem met_X2_beatCount (l : Launch) (K : gK) (mo : Nat) (A : mA) (σ : mS)  : mMet l K mo A yX2_beatCount cX2_beatCount 1 (some .int) 1 37 [] σ (some (.int (nI (mn σ 7)))) (m_tell σ) := by
  intro G hR0
  refine gMet.of (by decide) (Nat.le_of_ble_eq_true rfl) (fun p e s m below meth c ls hx hb X hr hin hG hS hl => ?_)
  have X : gC K p s m _ meth c cX2_beatCount 1 "KalmanQuayModel" := X
  have hM := mPre hR0 hG
  have hl : lv_has ls 1 [(0, .ref (mo))] := hl
  refine lv_aload_n hx hb dX2_beatCount_0 rfl (lv_at hl 0 rfl) ?_
  refine lv_aload_n hx hb dX2_beatCount_1 rfl (lv_at hl 0 rfl) ?_
  refine mf7 X hM dX2_beatCount_2 ?_
  refine m_call X (met_X2_tell l K mo A σ (mn σ 7) ) gp_X2_tell rfl q1424 q1426 qs13 q42 q1427 hM hS hl ⟨Nat.le_of_ble_eq_true rfl, Nat.le_of_ble_eq_true rfl⟩ ⟨Nat.le_refl _, Nat.le_refl _⟩ (rest := []) (Nat.le_of_ble_eq_true rfl) rfl dX2_beatCount_5 (fun H locs hM hS => ?_)
  refine W.eq (g2 := F0 m 8 ls [.int (nI (mn σ 7))]) rfl ?_
  exact m_iret X hr hM hS rfl rfl (Nat.le_refl _) (Nat.le_refl _) dX2_beatCount_8
set_option maxHeartbeats 4000000 in
set_option maxRecDepth 100000 in
/-- trackCount -/
theorem met_X2_trackCount (l : Launch) (K : gK) (mo : Nat) (A : mA) (σ : mS)  : mMet l K mo A yX2_trackCount cX2_trackCount 1 (some .int) 1 37 [] σ (some (.int (nI (mn σ 15)))) (m_tell σ) := by
  intro G hR0
  refine gMet.of (by decide) (Nat.le_of_ble_eq_true rfl) (fun p e s m below meth c ls hx hb X hr hin hG hS hl => ?_)
  have X : gC K p s m _ meth c cX2_trackCount 1 "KalmanQuayModel" := X
  have hM := mPre hR0 hG
  have hl : lv_has ls 1 [(0, .ref (mo))] := hl
  refine lv_aload_n hx hb dX2_trackCount_0 rfl (lv_at hl 0 rfl) ?_
  refine lv_aload_n hx hb dX2_trackCount_1 rfl (lv_at hl 0 rfl) ?_
  refine mf15 X hM dX2_trackCount_2 ?_
  refine m_call X (met_X2_tell l K mo A σ (mn σ 15) ) gp_X2_tell rfl q1424 q1426 qs13 q42 q1427 hM hS hl ⟨Nat.le_of_ble_eq_true rfl, Nat.le_of_ble_eq_true rfl⟩ ⟨Nat.le_refl _, Nat.le_refl _⟩ (rest := []) (Nat.le_of_ble_eq_true rfl) rfl dX2_trackCount_5 (fun H locs hM hS => ?_)
  refine W.eq (g2 := F0 m 8 ls [.int (nI (mn σ 15))]) rfl ?_
  exact m_iret X hr hM hS rfl rfl (Nat.le_refl _) (Nat.le_refl _) dX2_trackCount_8
set_option maxHeartbeats 4000000 in
set_option maxRecDepth 100000 in
/-- begin -/
theorem met_X2_begin (l : Launch) (K : gK) (mo : Nat) (A : mA) (σ : mS)  : mMet l K mo A yX2_begin cX2_begin 2 (some .int) 1 37 [] σ (some (.int (nI (mn σ 7)))) (m_begin σ) := by
  intro G hR0
  refine gMet.of (by decide) (Nat.le_of_ble_eq_true rfl) (fun p e s m below meth c ls hx hb X hr hin hG hS hl => ?_)
  have X : gC K p s m _ meth c cX2_begin 2 "KalmanQuayModel" := X
  have hM := mPre hR0 hG
  have hl : lv_has ls 2 [(0, .ref (mo))] := hl
  refine lv_aload_n hx hb dX2_begin_0 rfl (lv_at hl 0 rfl) ?_
  refine mf7 X hM dX2_begin_1 ?_
  refine lv_istore_n (lv' := [(1, .int (nI (mn σ 7))), (0, .ref (mo))]) hx hb dX2_begin_4 rfl hl (by decide) rfl (fun ls hl => ?_)
  refine lv_aload_n hx hb dX2_begin_5 rfl (lv_at hl 1 rfl) ?_
  refine lv_iconst (v := 0) hx hb dX2_begin_6 (by decide) ?_
  refine mp7 X hM hS (v := 0) rfl dX2_begin_7 (fun H locs hM hS => ?_)
  refine lv_aload_n hx hb dX2_begin_10 rfl (lv_at hl 1 rfl) ?_
  refine lv_iconst (v := 0) hx hb dX2_begin_11 (by decide) ?_
  refine mp8 X hM hS (v := 0) rfl dX2_begin_12 (fun H locs hM hS => ?_)
  refine lv_aload_n hx hb dX2_begin_15 rfl (lv_at hl 1 rfl) ?_
  refine lv_iconst (v := 0) hx hb dX2_begin_16 (by decide) ?_
  refine mp11 X hM hS (v := 0) rfl dX2_begin_17 (fun H locs hM hS => ?_)
  refine lv_aload_n hx hb dX2_begin_20 rfl (lv_at hl 1 rfl) ?_
  refine lv_iconst (v := 0) hx hb dX2_begin_21 (by decide) ?_
  refine mp13 X hM hS (v := 0) rfl dX2_begin_22 (fun H locs hM hS => ?_)
  refine lv_aload_n hx hb dX2_begin_25 rfl (lv_at hl 1 rfl) ?_
  refine lv_iconst (v := 0) hx hb dX2_begin_26 (by decide) ?_
  refine mp14 X hM hS (v := 0) rfl dX2_begin_27 (fun H locs hM hS => ?_)
  refine lv_aload_n hx hb dX2_begin_30 rfl (lv_at hl 1 rfl) ?_
  refine lv_iconst (v := 0) hx hb dX2_begin_31 (by decide) ?_
  refine mp15 X hM hS (v := 0) rfl dX2_begin_32 (fun H locs hM hS => ?_)
  refine lv_aload_n hx hb dX2_begin_35 rfl (lv_at hl 1 rfl) ?_
  refine lv_iconst (v := 0) hx hb dX2_begin_36 (by decide) ?_
  refine mp5 X hM hS (v := 0) rfl dX2_begin_37 (fun H locs hM hS => ?_)
  refine lv_aload_n hx hb dX2_begin_40 rfl (lv_at hl 1 rfl) ?_
  refine lv_iload_n hx hb dX2_begin_41 rfl (lv_at hl 0 rfl) ?_
  refine m_call X (met_X2_tell l K mo A (sn (sn (sn (sn (sn (sn (sn σ 7 (0)) 8 (0)) 11 (0)) 13 (0)) 14 (0)) 15 (0)) 5 (0)) (mn σ 7) ) gp_X2_tell rfl q1424 q1426 qs13 q42 q1427 hM hS hl ⟨Nat.le_of_ble_eq_true rfl, Nat.le_of_ble_eq_true rfl⟩ ⟨Nat.le_refl _, Nat.le_refl _⟩ (rest := []) (Nat.le_of_ble_eq_true rfl) rfl dX2_begin_42 (fun H locs hM hS => ?_)
  refine W.eq (g2 := F0 m 45 ls [.int (nI (mn σ 7))]) rfl ?_
  exact m_iret X hr hM hS rfl rfl (Nat.le_refl _) (Nat.le_refl _) dX2_begin_45
set_option maxHeartbeats 4000000 in
set_option maxRecDepth 100000 in
/-- setFilter -/
theorem met_X2_setFilter (l : Launch) (K : gK) (mo : Nat) (A : mA) (σ : mS) (a b : Int32) : mMet l K mo A yX2_setFilter cX2_setFilter 4 (some .int) 2 75 [.int (a), .int (b)] σ (some (.int (if m_okFilter a b = true then mz σ 0 else 0))) (m_setFilter σ a b) := by
  intro G hR0
  refine gMet.of (by decide) (Nat.le_of_ble_eq_true rfl) (fun p e s m below meth c ls hx hb X hr hin hG hS hl => ?_)
  have X : gC K p s m _ meth c cX2_setFilter 4 "KalmanQuayModel" := X
  have hM := mPre hR0 hG
  have hl : lv_has ls 4 [(0, .ref (mo)), (1, .int (a)), (2, .int (b))] := hl
  refine lv_aload_n hx hb dX2_setFilter_0 rfl (lv_at hl 0 rfl) ?_
  refine lv_iload_n hx hb dX2_setFilter_1 rfl (lv_at hl 1 rfl) ?_
  refine lv_iconst (v := 0) hx hb dX2_setFilter_2 (by decide) ?_
  refine lv_sipush (v := 4000) hx hb dX2_setFilter_3 (by decide) ?_
  refine m_callP X (met_X2_in l K (a) (0) (4000) ) gp_X2_in rfl q1432 q1433 q42 q1434 hM hS hl ⟨Nat.le_of_ble_eq_true rfl, Nat.le_of_ble_eq_true rfl⟩ ⟨Nat.le_refl _, Nat.le_refl _⟩ (rest := [.ref (mo)]) (Nat.le_of_ble_eq_true rfl) rfl dX2_setFilter_6 (fun H locs hM hS => ?_)
  refine W.eq (g2 := F0 m 9 ls [.int (gb (m_in a 0 4000)), .ref (mo)]) rfl ?_
  refine g_ifb_eq hx hb 32 dX2_setFilter_9 (by decide) (fun c_9 => ?_) (fun c_9 => ?_)
  · skip
    refine lv_iconst (v := 0) hx hb dX2_setFilter_32 (by decide) ?_
    refine m_call X (met_X2_claimFirst l K mo A σ false ) gp_X2_claimFirst rfl q1435 q1437 qs14 q42 q1438 hM hS hl ⟨Nat.le_of_ble_eq_true rfl, Nat.le_of_ble_eq_true rfl⟩ ⟨Nat.le_refl _, Nat.le_refl _⟩ (rest := []) (Nat.le_of_ble_eq_true rfl) rfl dX2_setFilter_33 (fun H locs hM hS => ?_)
    refine W.eq (g2 := F0 m 36 ls [.int (0)]) rfl ?_
    refine g_ifn_ne hx hb 41 dX2_setFilter_36 (by decide) (a := 0) rfl (by decide) (fun c_36 => ?_) (fun c_36 => ?_)
    · exact absurd c_36 (by decide)
    · skip
      refine lv_iconst (v := 0) hx hb dX2_setFilter_39 (by decide) ?_
      exact m_iret X hr hM hS (by simp [m_okFilter, c_9]) (by simp [m_setFilter, m_okFilter, c_9]) (Nat.le_refl _) (Nat.le_refl _) dX2_setFilter_40
  · skip
    refine lv_iload_n hx hb dX2_setFilter_12 rfl (lv_at hl 1 rfl) ?_
    refine lv_iconst (v := 4) hx hb dX2_setFilter_13 (by decide) ?_
    refine lv_irem hx hb dX2_setFilter_14 (by decide) ?_
    refine lv_if_ne (tgt := 32) hx hb dX2_setFilter_15 (by decide) (fun c_15 => ?_) (fun c_15 => ?_)
    · skip
      refine lv_iconst (v := 0) hx hb dX2_setFilter_32 (by decide) ?_
      refine m_call X (met_X2_claimFirst l K mo A σ false ) gp_X2_claimFirst rfl q1435 q1437 qs14 q42 q1438 hM hS hl ⟨Nat.le_of_ble_eq_true rfl, Nat.le_of_ble_eq_true rfl⟩ ⟨Nat.le_refl _, Nat.le_refl _⟩ (rest := []) (Nat.le_of_ble_eq_true rfl) rfl dX2_setFilter_33 (fun H locs hM hS => ?_)
      refine W.eq (g2 := F0 m 36 ls [.int (0)]) rfl ?_
      refine g_ifn_ne hx hb 41 dX2_setFilter_36 (by decide) (a := 0) rfl (by decide) (fun c_36 => ?_) (fun c_36 => ?_)
      · exact absurd c_36 (by decide)
      · skip
        refine lv_iconst (v := 0) hx hb dX2_setFilter_39 (by decide) ?_
        exact m_iret X hr hM hS (by simp [m_okFilter, c_9, c_15]) (by simp [m_setFilter, m_okFilter, c_9, c_15]) (Nat.le_refl _) (Nat.le_refl _) dX2_setFilter_40
    · skip
      refine lv_iload_n hx hb dX2_setFilter_18 rfl (lv_at hl 2 rfl) ?_
      refine lv_iconst (v := 1) hx hb dX2_setFilter_19 (by decide) ?_
      refine lv_bipush (v := 40) hx hb dX2_setFilter_20 (by decide) ?_
      refine m_callP X (met_X2_in l K (b) (1) (40) ) gp_X2_in rfl q1432 q1433 q42 q1434 hM hS hl ⟨Nat.le_of_ble_eq_true rfl, Nat.le_of_ble_eq_true rfl⟩ ⟨Nat.le_refl _, Nat.le_refl _⟩ (rest := [.ref (mo)]) (Nat.le_of_ble_eq_true rfl) rfl dX2_setFilter_22 (fun H locs hM hS => ?_)
      refine W.eq (g2 := F0 m 25 ls [.int (gb (m_in b 1 40)), .ref (mo)]) rfl ?_
      refine g_ifb_eq hx hb 32 dX2_setFilter_25 (by decide) (fun c_25 => ?_) (fun c_25 => ?_)
      · skip
        refine lv_iconst (v := 0) hx hb dX2_setFilter_32 (by decide) ?_
        refine m_call X (met_X2_claimFirst l K mo A σ false ) gp_X2_claimFirst rfl q1435 q1437 qs14 q42 q1438 hM hS hl ⟨Nat.le_of_ble_eq_true rfl, Nat.le_of_ble_eq_true rfl⟩ ⟨Nat.le_refl _, Nat.le_refl _⟩ (rest := []) (Nat.le_of_ble_eq_true rfl) rfl dX2_setFilter_33 (fun H locs hM hS => ?_)
        refine W.eq (g2 := F0 m 36 ls [.int (0)]) rfl ?_
        refine g_ifn_ne hx hb 41 dX2_setFilter_36 (by decide) (a := 0) rfl (by decide) (fun c_36 => ?_) (fun c_36 => ?_)
        · exact absurd c_36 (by decide)
        · skip
          refine lv_iconst (v := 0) hx hb dX2_setFilter_39 (by decide) ?_
          exact m_iret X hr hM hS (by simp [m_okFilter, c_9, c_15, c_25]) (by simp [m_setFilter, m_okFilter, c_9, c_15, c_25]) (Nat.le_refl _) (Nat.le_refl _) dX2_setFilter_40
      · skip
        refine lv_iconst (v := 1) hx hb dX2_setFilter_28 (by decide) ?_
        refine lv_goto (tgt := 33) hx hb dX2_setFilter_29 (by decide) ?_
        refine m_call X (met_X2_claimFirst l K mo A σ true ) gp_X2_claimFirst rfl q1435 q1437 qs14 q42 q1438 hM hS hl ⟨Nat.le_of_ble_eq_true rfl, Nat.le_of_ble_eq_true rfl⟩ ⟨Nat.le_refl _, Nat.le_refl _⟩ (rest := []) (Nat.le_of_ble_eq_true rfl) rfl dX2_setFilter_33 (fun H locs hM hS => ?_)
        refine W.eq (g2 := F0 m 36 ls [.int (1)]) rfl ?_
        refine g_ifn_ne hx hb 41 dX2_setFilter_36 (by decide) (a := 1) rfl (by decide) (fun c_36 => ?_) (fun c_36 => ?_)
        · skip
          refine lv_aload_n hx hb dX2_setFilter_41 rfl (lv_at hl 0 rfl) ?_
          refine mf0 X hM dX2_setFilter_42 ?_
          refine g_topE (z := mz σ 0) (by simp [mz_m_first]) ?_
          refine lv_istore_n (lv' := [(3, .int (mz σ 0)), (0, .ref (mo)), (1, .int (a)), (2, .int (b))]) hx hb dX2_setFilter_45 rfl hl (by decide) rfl (fun ls hl => ?_)
          refine lv_aload_n hx hb dX2_setFilter_46 rfl (lv_at hl 1 rfl) ?_
          refine lv_iload_n hx hb dX2_setFilter_47 rfl (lv_at hl 2 rfl) ?_
          refine mp0 X hM hS (v := a) dX2_setFilter_48 (fun H locs hM hS => ?_)
          refine lv_aload_n hx hb dX2_setFilter_51 rfl (lv_at hl 1 rfl) ?_
          refine lv_iload_n hx hb dX2_setFilter_52 rfl (lv_at hl 3 rfl) ?_
          refine mp1 X hM hS (v := b) dX2_setFilter_53 (fun H locs hM hS => ?_)
          refine lv_iload_n hx hb dX2_setFilter_56 rfl (lv_at hl 0 rfl) ?_
          exact m_iret X hr hM hS (by simp [m_okFilter, c_9, c_15, c_25]) (by simp [m_setFilter, m_okFilter, c_9, c_15, c_25]) (Nat.le_refl _) (Nat.le_refl _) dX2_setFilter_57
        · exact absurd c_36 (by decide)
set_option maxHeartbeats 4000000 in
set_option maxRecDepth 100000 in
/-- setTracks -/
theorem met_X2_setTracks (l : Launch) (K : gK) (mo : Nat) (A : mA) (σ : mS) (a b d : Int32) : mMet l K mo A yX2_setTracks cX2_setTracks 5 (some .int) 2 75 [.int (a), .int (b), .int (d)] σ (some (.int (if m_okTracks a b d = true then mz σ 2 else 0))) (m_setTracks σ a b d) := by
  intro G hR0
  refine gMet.of (by decide) (Nat.le_of_ble_eq_true rfl) (fun p e s m below meth c ls hx hb X hr hin hG hS hl => ?_)
  have X : gC K p s m _ meth c cX2_setTracks 5 "KalmanQuayModel" := X
  have hM := mPre hR0 hG
  have hl : lv_has ls 5 [(0, .ref (mo)), (1, .int (a)), (2, .int (b)), (3, .int (d))] := hl
  refine lv_aload_n hx hb dX2_setTracks_0 rfl (lv_at hl 0 rfl) ?_
  refine lv_iload_n hx hb dX2_setTracks_1 rfl (lv_at hl 1 rfl) ?_
  refine lv_iconst (v := 0) hx hb dX2_setTracks_2 (by decide) ?_
  refine lv_bipush (v := 9) hx hb dX2_setTracks_3 (by decide) ?_
  refine m_callP X (met_X2_in l K (a) (0) (9) ) gp_X2_in rfl q1432 q1433 q42 q1434 hM hS hl ⟨Nat.le_of_ble_eq_true rfl, Nat.le_of_ble_eq_true rfl⟩ ⟨Nat.le_refl _, Nat.le_refl _⟩ (rest := [.ref (mo)]) (Nat.le_of_ble_eq_true rfl) rfl dX2_setTracks_5 (fun H locs hM hS => ?_)
  refine W.eq (g2 := F0 m 8 ls [.int (gb (m_in a 0 9)), .ref (mo)]) rfl ?_
  refine g_ifb_eq hx hb 34 dX2_setTracks_8 (by decide) (fun c_8 => ?_) (fun c_8 => ?_)
  · skip
    refine lv_iconst (v := 0) hx hb dX2_setTracks_34 (by decide) ?_
    refine m_call X (met_X2_claimFirst l K mo A σ false ) gp_X2_claimFirst rfl q1435 q1437 qs14 q42 q1438 hM hS hl ⟨Nat.le_of_ble_eq_true rfl, Nat.le_of_ble_eq_true rfl⟩ ⟨Nat.le_refl _, Nat.le_refl _⟩ (rest := []) (Nat.le_of_ble_eq_true rfl) rfl dX2_setTracks_35 (fun H locs hM hS => ?_)
    refine W.eq (g2 := F0 m 38 ls [.int (0)]) rfl ?_
    refine g_ifn_ne hx hb 43 dX2_setTracks_38 (by decide) (a := 0) rfl (by decide) (fun c_38 => ?_) (fun c_38 => ?_)
    · exact absurd c_38 (by decide)
    · skip
      refine lv_iconst (v := 0) hx hb dX2_setTracks_41 (by decide) ?_
      exact m_iret X hr hM hS (by simp [m_okTracks, c_8]) (by simp [m_setTracks, m_okTracks, c_8]) (Nat.le_refl _) (Nat.le_refl _) dX2_setTracks_42
  · skip
    refine lv_iload_n hx hb dX2_setTracks_11 rfl (lv_at hl 2 rfl) ?_
    refine lv_iconst (v := 1) hx hb dX2_setTracks_12 (by decide) ?_
    refine lv_iconst (v := 5) hx hb dX2_setTracks_13 (by decide) ?_
    refine m_callP X (met_X2_in l K (b) (1) (5) ) gp_X2_in rfl q1432 q1433 q42 q1434 hM hS hl ⟨Nat.le_of_ble_eq_true rfl, Nat.le_of_ble_eq_true rfl⟩ ⟨Nat.le_refl _, Nat.le_refl _⟩ (rest := [.ref (mo)]) (Nat.le_of_ble_eq_true rfl) rfl dX2_setTracks_14 (fun H locs hM hS => ?_)
    refine W.eq (g2 := F0 m 17 ls [.int (gb (m_in b 1 5)), .ref (mo)]) rfl ?_
    refine g_ifb_eq hx hb 34 dX2_setTracks_17 (by decide) (fun c_17 => ?_) (fun c_17 => ?_)
    · skip
      refine lv_iconst (v := 0) hx hb dX2_setTracks_34 (by decide) ?_
      refine m_call X (met_X2_claimFirst l K mo A σ false ) gp_X2_claimFirst rfl q1435 q1437 qs14 q42 q1438 hM hS hl ⟨Nat.le_of_ble_eq_true rfl, Nat.le_of_ble_eq_true rfl⟩ ⟨Nat.le_refl _, Nat.le_refl _⟩ (rest := []) (Nat.le_of_ble_eq_true rfl) rfl dX2_setTracks_35 (fun H locs hM hS => ?_)
      refine W.eq (g2 := F0 m 38 ls [.int (0)]) rfl ?_
      refine g_ifn_ne hx hb 43 dX2_setTracks_38 (by decide) (a := 0) rfl (by decide) (fun c_38 => ?_) (fun c_38 => ?_)
      · exact absurd c_38 (by decide)
      · skip
        refine lv_iconst (v := 0) hx hb dX2_setTracks_41 (by decide) ?_
        exact m_iret X hr hM hS (by simp [m_okTracks, c_8, c_17]) (by simp [m_setTracks, m_okTracks, c_8, c_17]) (Nat.le_refl _) (Nat.le_refl _) dX2_setTracks_42
    · skip
      refine lv_iload_n hx hb dX2_setTracks_20 rfl (lv_at hl 3 rfl) ?_
      refine lv_iconst (v := 1) hx hb dX2_setTracks_21 (by decide) ?_
      refine lv_ldc (v := 16777216) hx hb X.1.2.2.2.1 (X.1.2.2.2.2 _ q1447) dX2_setTracks_22 ?_
      refine m_callP X (met_X2_in l K (d) (1) (16777216) ) gp_X2_in rfl q1432 q1433 q42 q1434 hM hS hl ⟨Nat.le_of_ble_eq_true rfl, Nat.le_of_ble_eq_true rfl⟩ ⟨Nat.le_refl _, Nat.le_refl _⟩ (rest := [.ref (mo)]) (Nat.le_of_ble_eq_true rfl) rfl dX2_setTracks_24 (fun H locs hM hS => ?_)
      refine W.eq (g2 := F0 m 27 ls [.int (gb (m_in d 1 16777216)), .ref (mo)]) rfl ?_
      refine g_ifb_eq hx hb 34 dX2_setTracks_27 (by decide) (fun c_27 => ?_) (fun c_27 => ?_)
      · skip
        refine lv_iconst (v := 0) hx hb dX2_setTracks_34 (by decide) ?_
        refine m_call X (met_X2_claimFirst l K mo A σ false ) gp_X2_claimFirst rfl q1435 q1437 qs14 q42 q1438 hM hS hl ⟨Nat.le_of_ble_eq_true rfl, Nat.le_of_ble_eq_true rfl⟩ ⟨Nat.le_refl _, Nat.le_refl _⟩ (rest := []) (Nat.le_of_ble_eq_true rfl) rfl dX2_setTracks_35 (fun H locs hM hS => ?_)
        refine W.eq (g2 := F0 m 38 ls [.int (0)]) rfl ?_
        refine g_ifn_ne hx hb 43 dX2_setTracks_38 (by decide) (a := 0) rfl (by decide) (fun c_38 => ?_) (fun c_38 => ?_)
        · exact absurd c_38 (by decide)
        · skip
          refine lv_iconst (v := 0) hx hb dX2_setTracks_41 (by decide) ?_
          exact m_iret X hr hM hS (by simp [m_okTracks, c_8, c_17, c_27]) (by simp [m_setTracks, m_okTracks, c_8, c_17, c_27]) (Nat.le_refl _) (Nat.le_refl _) dX2_setTracks_42
      · skip
        refine lv_iconst (v := 1) hx hb dX2_setTracks_30 (by decide) ?_
        refine lv_goto (tgt := 35) hx hb dX2_setTracks_31 (by decide) ?_
        refine m_call X (met_X2_claimFirst l K mo A σ true ) gp_X2_claimFirst rfl q1435 q1437 qs14 q42 q1438 hM hS hl ⟨Nat.le_of_ble_eq_true rfl, Nat.le_of_ble_eq_true rfl⟩ ⟨Nat.le_refl _, Nat.le_refl _⟩ (rest := []) (Nat.le_of_ble_eq_true rfl) rfl dX2_setTracks_35 (fun H locs hM hS => ?_)
        refine W.eq (g2 := F0 m 38 ls [.int (1)]) rfl ?_
        refine g_ifn_ne hx hb 43 dX2_setTracks_38 (by decide) (a := 1) rfl (by decide) (fun c_38 => ?_) (fun c_38 => ?_)
        · skip
          refine lv_aload_n hx hb dX2_setTracks_43 rfl (lv_at hl 0 rfl) ?_
          refine mf2 X hM dX2_setTracks_44 ?_
          refine g_topE (z := mz σ 2) (by simp [mz_m_first]) ?_
          refine lv_istore (lv' := [(4, .int (mz σ 2)), (0, .ref (mo)), (1, .int (a)), (2, .int (b)), (3, .int (d))]) hx hb dX2_setTracks_47 hl (by decide) rfl (fun ls hl => ?_)
          refine lv_aload_n hx hb dX2_setTracks_49 rfl (lv_at hl 1 rfl) ?_
          refine lv_iload_n hx hb dX2_setTracks_50 rfl (lv_at hl 2 rfl) ?_
          refine mp2 X hM hS (v := a) dX2_setTracks_51 (fun H locs hM hS => ?_)
          refine lv_aload_n hx hb dX2_setTracks_54 rfl (lv_at hl 1 rfl) ?_
          refine lv_iload_n hx hb dX2_setTracks_55 rfl (lv_at hl 3 rfl) ?_
          refine mp3 X hM hS (v := b) dX2_setTracks_56 (fun H locs hM hS => ?_)
          refine lv_aload_n hx hb dX2_setTracks_59 rfl (lv_at hl 1 rfl) ?_
          refine lv_iload_n hx hb dX2_setTracks_60 rfl (lv_at hl 4 rfl) ?_
          refine mp4 X hM hS (v := d) dX2_setTracks_61 (fun H locs hM hS => ?_)
          refine lv_iload hx hb dX2_setTracks_64 (lv_at hl 0 rfl) ?_
          exact m_iret X hr hM hS (by simp [m_okTracks, c_8, c_17, c_27]) (by simp [m_setTracks, m_okTracks, c_8, c_17, c_27]) (Nat.le_refl _) (Nat.le_refl _) dX2_setTracks_66
        · exact absurd c_38 (by decide)
set_option maxHeartbeats 4000000 in
set_option maxRecDepth 100000 in
/-- addSensor -/
theorem met_X2_addSensor (l : Launch) (K : gK) (mo : Nat) (A : mA) (σ : mS) (v : Int32) (h5 : mn σ 5 ≤ 4) : mMet l K mo A yX2_addSensor cX2_addSensor 2 (some .int) 2 75 [.int (v)] σ (some (.int (if m_in v 1 65536 = true ∧ mn σ 5 < 4 then nI (mn σ 5) else 0))) (m_addSensor σ v) := by
  intro G hR0
  refine gMet.of (by decide) (Nat.le_of_ble_eq_true rfl) (fun p e s m below meth c ls hx hb X hr hin hG hS hl => ?_)
  have X : gC K p s m _ meth c cX2_addSensor 2 "KalmanQuayModel" := X
  have hM := mPre hR0 hG
  have hl : lv_has ls 2 [(0, .ref (mo)), (1, .int (v))] := hl
  refine lv_aload_n hx hb dX2_addSensor_0 rfl (lv_at hl 0 rfl) ?_
  refine lv_iload_n hx hb dX2_addSensor_1 rfl (lv_at hl 1 rfl) ?_
  refine lv_iconst (v := 1) hx hb dX2_addSensor_2 (by decide) ?_
  refine lv_ldc (v := 65536) hx hb X.1.2.2.2.1 (X.1.2.2.2.2 _ q1278) dX2_addSensor_3 ?_
  refine m_callP X (met_X2_in l K (v) (1) (65536) ) gp_X2_in rfl q1432 q1433 q42 q1434 hM hS hl ⟨Nat.le_of_ble_eq_true rfl, Nat.le_of_ble_eq_true rfl⟩ ⟨Nat.le_refl _, Nat.le_refl _⟩ (rest := [.ref (mo)]) (Nat.le_of_ble_eq_true rfl) rfl dX2_addSensor_5 (fun H locs hM hS => ?_)
  refine W.eq (g2 := F0 m 8 ls [.int (gb (m_in v 1 65536)), .ref (mo)]) rfl ?_
  refine m_call X (met_X2_claimFirst l K mo A σ (m_in v 1 65536) ) gp_X2_claimFirst rfl q1435 q1437 qs14 q42 q1438 hM hS hl ⟨Nat.le_of_ble_eq_true rfl, Nat.le_of_ble_eq_true rfl⟩ ⟨Nat.le_refl _, Nat.le_refl _⟩ (rest := []) (Nat.le_of_ble_eq_true rfl) rfl dX2_addSensor_8 (fun H locs hM hS => ?_)
  refine W.eq (g2 := F0 m 11 ls [.int (gb (m_in v 1 65536))]) rfl ?_
  refine g_ifb_eq hx hb 35 dX2_addSensor_11 (by decide) (fun c_11 => ?_) (fun c_11 => ?_)
  · skip
    rw [c_11] at hM
    refine lv_iconst (v := 0) hx hb dX2_addSensor_35 (by decide) ?_
    exact m_iret X hr hM hS (by simp [c_11]) (by simp [m_addSensor, cl_t, cl_f, c_11]) (Nat.le_refl _) (Nat.le_refl _) dX2_addSensor_36
  · skip
    rw [c_11] at hM
    refine lv_aload_n hx hb dX2_addSensor_14 rfl (lv_at hl 0 rfl) ?_
    refine lv_aload_n hx hb dX2_addSensor_15 rfl (lv_at hl 0 rfl) ?_
    refine mf5 X hM dX2_addSensor_16 ?_
    refine g_topE (z := nI (mn σ 5)) (by simp [mn_m_first]) ?_
    refine lv_iconst (v := 4) hx hb dX2_addSensor_19 (by decide) ?_
    refine g_icmp_ge hx hb 27 dX2_addSensor_20 (by decide) (a := mn σ 5) (b := 4) rfl rfl (by omega) (by decide) (fun c_20 => ?_) (fun c_20 => ?_)
    · skip
      refine lv_iconst (v := 0) hx hb dX2_addSensor_27 (by decide) ?_
      refine lv_iconst (v := 2) hx hb dX2_addSensor_28 (by decide) ?_
      refine m_call X (met_X2_claim l K mo A (m_first σ true) false 2 ) gp_X2_claim rfl q1439 q1441 qs15 q42 q1442 hM hS hl ⟨Nat.le_of_ble_eq_true rfl, Nat.le_of_ble_eq_true rfl⟩ ⟨Nat.le_refl _, Nat.le_refl _⟩ (rest := []) (Nat.le_of_ble_eq_true rfl) rfl dX2_addSensor_29 (fun H locs hM hS => ?_)
      refine W.eq (g2 := F0 m 32 ls [.int (0)]) rfl ?_
      refine g_ifn_ne hx hb 37 dX2_addSensor_32 (by decide) (a := 0) rfl (by decide) (fun c_32 => ?_) (fun c_32 => ?_)
      · exact absurd c_32 (by decide)
      · skip
        refine lv_iconst (v := 0) hx hb dX2_addSensor_35 (by decide) ?_
        exact m_iret X hr hM hS (by simp [c_11, c_20, Nat.not_lt.mpr c_20]) (by simp [m_addSensor, cl_t, cl_f, c_11, c_20, Nat.not_lt.mpr c_20]) (Nat.le_refl _) (Nat.le_refl _) dX2_addSensor_36
    · skip
      refine lv_iconst (v := 1) hx hb dX2_addSensor_23 (by decide) ?_
      refine lv_goto (tgt := 28) hx hb dX2_addSensor_24 (by decide) ?_
      refine lv_iconst (v := 2) hx hb dX2_addSensor_28 (by decide) ?_
      refine m_call X (met_X2_claim l K mo A (m_first σ true) true 2 ) gp_X2_claim rfl q1439 q1441 qs15 q42 q1442 hM hS hl ⟨Nat.le_of_ble_eq_true rfl, Nat.le_of_ble_eq_true rfl⟩ ⟨Nat.le_refl _, Nat.le_refl _⟩ (rest := []) (Nat.le_of_ble_eq_true rfl) rfl dX2_addSensor_29 (fun H locs hM hS => ?_)
      refine W.eq (g2 := F0 m 32 ls [.int (1)]) rfl ?_
      refine g_ifn_ne hx hb 37 dX2_addSensor_32 (by decide) (a := 1) rfl (by decide) (fun c_32 => ?_) (fun c_32 => ?_)
      · skip
        refine lv_aload_n hx hb dX2_addSensor_37 rfl (lv_at hl 0 rfl) ?_
        refine mf6 X hM dX2_addSensor_38 ?_
        refine lv_aload_n hx hb dX2_addSensor_41 rfl (lv_at hl 0 rfl) ?_
        refine mf5 X hM dX2_addSensor_42 ?_
        refine g_topE (z := nI (mn σ 5)) (by simp [mn_m_claim, mn_m_first]) ?_
        refine lv_iload_n hx hb dX2_addSensor_45 rfl (lv_at hl 1 rfl) ?_
        refine m_sta X hM hS 6 4 (fun _ => rfl) rfl (by omega) (by decide) (by decide) dX2_addSensor_46 (fun H locs hM hS => ?_)
        refine lv_aload_n hx hb dX2_addSensor_47 rfl (lv_at hl 0 rfl) ?_
        refine lv_dup hx hb dX2_addSensor_48 rfl ?_
        refine mf5 X hM dX2_addSensor_49 ?_
        refine g_topE (z := nI (mn σ 5)) (by simp [mn_sa, mn_m_claim, mn_m_first]) ?_
        refine lv_iconst (v := 1) hx hb dX2_addSensor_52 (by decide) ?_
        refine lv_iadd hx hb dX2_addSensor_53 ?_
        refine g_topN (n_add (a := mn σ 5) (b := 1) rfl rfl) ?_
        refine mp5 X hM hS (v := (mn σ 5) + 1) rfl dX2_addSensor_54 (fun H locs hM hS => ?_)
        refine lv_aload_n hx hb dX2_addSensor_57 rfl (lv_at hl 0 rfl) ?_
        refine mf5 X hM dX2_addSensor_58 ?_
        refine g_topE (z := nI ((mn σ 5) + 1)) (by simp [mn_sn]) ?_
        refine lv_iconst (v := 1) hx hb dX2_addSensor_61 (by decide) ?_
        refine lv_isub hx hb dX2_addSensor_62 ?_
        refine g_topN (n_sub (a := (mn σ 5) + 1) (b := 1) rfl rfl (by omega)) ?_
        exact m_iret X hr hM hS (by simp [c_11, c_20]) (by simp [m_addSensor, cl_t, cl_f, c_11, c_20]) (Nat.le_refl _) (Nat.le_refl _) dX2_addSensor_63
      · exact absurd c_32 (by decide)
set_option maxHeartbeats 4000000 in
set_option maxRecDepth 100000 in
/-- hit -/
theorem met_X2_hit (l : Launch) (K : gK) (mo : Nat) (A : mA) (σ : mS) (x z : Int32) (h7 : mn σ 7 ≤ 64) (h8 : mn σ 8 ≤ 8) : mMet l K mo A yX2_hit cX2_hit 3 (some .int) 2 75 [.int (x), .int (z)] σ (some (.int (if m_in x 0 (nI (mn σ 5) - 1) = true ∧ m_in z (-100000) 100000 = true ∧ mn σ 8 < 8 ∧ mn σ 7 < 64 then nI (mn σ 8) else 0))) (m_hit σ x z) := by
  intro G hR0
  refine gMet.of (by decide) (Nat.le_of_ble_eq_true rfl) (fun p e s m below meth c ls hx hb X hr hin hG hS hl => ?_)
  have X : gC K p s m _ meth c cX2_hit 3 "KalmanQuayModel" := X
  have hM := mPre hR0 hG
  have hl : lv_has ls 3 [(0, .ref (mo)), (1, .int (x)), (2, .int (z))] := hl
  refine lv_aload_n hx hb dX2_hit_0 rfl (lv_at hl 0 rfl) ?_
  refine lv_iload_n hx hb dX2_hit_1 rfl (lv_at hl 1 rfl) ?_
  refine lv_iconst (v := 0) hx hb dX2_hit_2 (by decide) ?_
  refine lv_aload_n hx hb dX2_hit_3 rfl (lv_at hl 0 rfl) ?_
  refine mf5 X hM dX2_hit_4 ?_
  refine lv_iconst (v := 1) hx hb dX2_hit_7 (by decide) ?_
  refine lv_isub hx hb dX2_hit_8 ?_
  refine m_callP X (met_X2_in l K (x) (0) ((nI (mn σ 5)) - 1) ) gp_X2_in rfl q1432 q1433 q42 q1434 hM hS hl ⟨Nat.le_of_ble_eq_true rfl, Nat.le_of_ble_eq_true rfl⟩ ⟨Nat.le_refl _, Nat.le_refl _⟩ (rest := [.ref (mo)]) (Nat.le_of_ble_eq_true rfl) rfl dX2_hit_9 (fun H locs hM hS => ?_)
  refine W.eq (g2 := F0 m 12 ls [.int (gb (m_in x 0 ((nI (mn σ 5)) - 1))), .ref (mo)]) rfl ?_
  refine m_call X (met_X2_claimFirst l K mo A σ (m_in x 0 ((nI (mn σ 5)) - 1)) ) gp_X2_claimFirst rfl q1435 q1437 qs14 q42 q1438 hM hS hl ⟨Nat.le_of_ble_eq_true rfl, Nat.le_of_ble_eq_true rfl⟩ ⟨Nat.le_refl _, Nat.le_refl _⟩ (rest := []) (Nat.le_of_ble_eq_true rfl) rfl dX2_hit_12 (fun H locs hM hS => ?_)
  refine W.eq (g2 := F0 m 15 ls [.int (gb (m_in x 0 ((nI (mn σ 5)) - 1)))]) rfl ?_
  refine g_ifb_eq hx hb 65 dX2_hit_15 (by decide) (fun c_15 => ?_) (fun c_15 => ?_)
  · skip
    rw [c_15] at hM
    refine lv_iconst (v := 0) hx hb dX2_hit_65 (by decide) ?_
    exact m_iret X hr hM hS (by simp [c_15]) (by simp [m_hit, cl_t, cl_f, c_15]) (Nat.le_refl _) (Nat.le_refl _) dX2_hit_66
  · skip
    rw [c_15] at hM
    refine lv_aload_n hx hb dX2_hit_18 rfl (lv_at hl 0 rfl) ?_
    refine lv_iload_n hx hb dX2_hit_19 rfl (lv_at hl 2 rfl) ?_
    refine lv_ldc (v := (-100000)) hx hb X.1.2.2.2.1 (X.1.2.2.2.2 _ q1460) dX2_hit_20 ?_
    refine lv_ldc (v := 100000) hx hb X.1.2.2.2.1 (X.1.2.2.2.2 _ q1461) dX2_hit_22 ?_
    refine m_callP X (met_X2_in l K (z) ((-100000)) (100000) ) gp_X2_in rfl q1432 q1433 q42 q1434 hM hS hl ⟨Nat.le_of_ble_eq_true rfl, Nat.le_of_ble_eq_true rfl⟩ ⟨Nat.le_refl _, Nat.le_refl _⟩ (rest := [.ref (mo)]) (Nat.le_of_ble_eq_true rfl) rfl dX2_hit_24 (fun H locs hM hS => ?_)
    refine W.eq (g2 := F0 m 27 ls [.int (gb (m_in z (-100000) 100000)), .ref (mo)]) rfl ?_
    refine lv_iconst (v := 2) hx hb dX2_hit_27 (by decide) ?_
    refine m_call X (met_X2_claim l K mo A (m_first σ true) (m_in z (-100000) 100000) 2 ) gp_X2_claim rfl q1439 q1441 qs15 q42 q1442 hM hS hl ⟨Nat.le_of_ble_eq_true rfl, Nat.le_of_ble_eq_true rfl⟩ ⟨Nat.le_refl _, Nat.le_refl _⟩ (rest := []) (Nat.le_of_ble_eq_true rfl) rfl dX2_hit_28 (fun H locs hM hS => ?_)
    refine W.eq (g2 := F0 m 31 ls [.int (gb (m_in z (-100000) 100000))]) rfl ?_
    refine g_ifb_eq hx hb 65 dX2_hit_31 (by decide) (fun c_31 => ?_) (fun c_31 => ?_)
    · skip
      rw [c_31] at hM
      refine lv_iconst (v := 0) hx hb dX2_hit_65 (by decide) ?_
      exact m_iret X hr hM hS (by simp [c_15, c_31]) (by simp [m_hit, cl_t, cl_f, c_15, c_31]) (Nat.le_refl _) (Nat.le_refl _) dX2_hit_66
    · skip
      rw [c_31] at hM
      refine lv_aload_n hx hb dX2_hit_34 rfl (lv_at hl 0 rfl) ?_
      refine lv_aload_n hx hb dX2_hit_35 rfl (lv_at hl 0 rfl) ?_
      refine mf8 X hM dX2_hit_36 ?_
      refine g_topE (z := nI (mn σ 8)) (by simp [mn_m_claim, mn_m_first]) ?_
      refine lv_bipush (v := 8) hx hb dX2_hit_39 (by decide) ?_
      refine g_icmp_ge hx hb 57 dX2_hit_41 (by decide) (a := mn σ 8) (b := 8) rfl rfl (by omega) (by decide) (fun c_41 => ?_) (fun c_41 => ?_)
      · skip
        refine lv_iconst (v := 0) hx hb dX2_hit_57 (by decide) ?_
        refine lv_iconst (v := 3) hx hb dX2_hit_58 (by decide) ?_
        refine m_call X (met_X2_claim l K mo A (m_claim (m_first σ true) true 2) false 3 ) gp_X2_claim rfl q1439 q1441 qs15 q42 q1442 hM hS hl ⟨Nat.le_of_ble_eq_true rfl, Nat.le_of_ble_eq_true rfl⟩ ⟨Nat.le_refl _, Nat.le_refl _⟩ (rest := []) (Nat.le_of_ble_eq_true rfl) rfl dX2_hit_59 (fun H locs hM hS => ?_)
        refine W.eq (g2 := F0 m 62 ls [.int (0)]) rfl ?_
        refine g_ifn_ne hx hb 67 dX2_hit_62 (by decide) (a := 0) rfl (by decide) (fun c_62 => ?_) (fun c_62 => ?_)
        · exact absurd c_62 (by decide)
        · skip
          refine lv_iconst (v := 0) hx hb dX2_hit_65 (by decide) ?_
          exact m_iret X hr hM hS (by simp [c_15, c_31, c_41, Nat.not_lt.mpr c_41]) (by simp [m_hit, cl_t, cl_f, c_15, c_31, c_41, Nat.not_lt.mpr c_41]) (Nat.le_refl _) (Nat.le_refl _) dX2_hit_66
      · skip
        refine lv_aload_n hx hb dX2_hit_44 rfl (lv_at hl 0 rfl) ?_
        refine mf7 X hM dX2_hit_45 ?_
        refine g_topE (z := nI (mn σ 7)) (by simp [mn_m_claim, mn_m_first]) ?_
        refine lv_bipush (v := 64) hx hb dX2_hit_48 (by decide) ?_
        refine g_icmp_ge hx hb 57 dX2_hit_50 (by decide) (a := mn σ 7) (b := 64) rfl rfl (by omega) (by decide) (fun c_50 => ?_) (fun c_50 => ?_)
        · skip
          refine lv_iconst (v := 0) hx hb dX2_hit_57 (by decide) ?_
          refine lv_iconst (v := 3) hx hb dX2_hit_58 (by decide) ?_
          refine m_call X (met_X2_claim l K mo A (m_claim (m_first σ true) true 2) false 3 ) gp_X2_claim rfl q1439 q1441 qs15 q42 q1442 hM hS hl ⟨Nat.le_of_ble_eq_true rfl, Nat.le_of_ble_eq_true rfl⟩ ⟨Nat.le_refl _, Nat.le_refl _⟩ (rest := []) (Nat.le_of_ble_eq_true rfl) rfl dX2_hit_59 (fun H locs hM hS => ?_)
          refine W.eq (g2 := F0 m 62 ls [.int (0)]) rfl ?_
          refine g_ifn_ne hx hb 67 dX2_hit_62 (by decide) (a := 0) rfl (by decide) (fun c_62 => ?_) (fun c_62 => ?_)
          · exact absurd c_62 (by decide)
          · skip
            refine lv_iconst (v := 0) hx hb dX2_hit_65 (by decide) ?_
            exact m_iret X hr hM hS (by simp [c_15, c_31, c_41, c_50, Nat.not_lt.mpr c_50]) (by simp [m_hit, cl_t, cl_f, c_15, c_31, c_41, c_50, Nat.not_lt.mpr c_50]) (Nat.le_refl _) (Nat.le_refl _) dX2_hit_66
        · skip
          refine lv_iconst (v := 1) hx hb dX2_hit_53 (by decide) ?_
          refine lv_goto (tgt := 58) hx hb dX2_hit_54 (by decide) ?_
          refine lv_iconst (v := 3) hx hb dX2_hit_58 (by decide) ?_
          refine m_call X (met_X2_claim l K mo A (m_claim (m_first σ true) true 2) true 3 ) gp_X2_claim rfl q1439 q1441 qs15 q42 q1442 hM hS hl ⟨Nat.le_of_ble_eq_true rfl, Nat.le_of_ble_eq_true rfl⟩ ⟨Nat.le_refl _, Nat.le_refl _⟩ (rest := []) (Nat.le_of_ble_eq_true rfl) rfl dX2_hit_59 (fun H locs hM hS => ?_)
          refine W.eq (g2 := F0 m 62 ls [.int (1)]) rfl ?_
          refine g_ifn_ne hx hb 67 dX2_hit_62 (by decide) (a := 1) rfl (by decide) (fun c_62 => ?_) (fun c_62 => ?_)
          · skip
            have hx1 : x = nI x.toNatClampNeg := n_of (in_iff.mp c_15).1
            refine lv_aload_n hx hb dX2_hit_67 rfl (lv_at hl 0 rfl) ?_
            refine mf9 X hM dX2_hit_68 ?_
            refine lv_aload_n hx hb dX2_hit_71 rfl (lv_at hl 0 rfl) ?_
            refine mf8 X hM dX2_hit_72 ?_
            refine g_topE (z := nI (mn σ 8)) (by simp [mn_m_claim, mn_m_first]) ?_
            refine lv_iload_n hx hb dX2_hit_75 rfl (lv_at hl 1 rfl) ?_
            refine m_stb X hM hS 9 8 (fun _ => rfl) rfl (by omega) (by decide) (by decide) (v := x.toNatClampNeg) hx1 dX2_hit_76 (fun H locs hM hS => ?_)
            refine lv_aload_n hx hb dX2_hit_77 rfl (lv_at hl 0 rfl) ?_
            refine mf10 X hM dX2_hit_78 ?_
            refine lv_aload_n hx hb dX2_hit_81 rfl (lv_at hl 0 rfl) ?_
            refine mf8 X hM dX2_hit_82 ?_
            refine g_topE (z := nI (mn σ 8)) (by simp [mn_sb, mn_m_claim, mn_m_first]) ?_
            refine lv_iload_n hx hb dX2_hit_85 rfl (lv_at hl 2 rfl) ?_
            refine m_sta X hM hS 10 8 (fun _ => rfl) rfl (by omega) (by decide) (by decide) dX2_hit_86 (fun H locs hM hS => ?_)
            refine lv_aload_n hx hb dX2_hit_87 rfl (lv_at hl 0 rfl) ?_
            refine lv_dup hx hb dX2_hit_88 rfl ?_
            refine mf8 X hM dX2_hit_89 ?_
            refine g_topE (z := nI (mn σ 8)) (by simp [mn_sa, mn_sb, mn_m_claim, mn_m_first]) ?_
            refine lv_iconst (v := 1) hx hb dX2_hit_92 (by decide) ?_
            refine lv_iadd hx hb dX2_hit_93 ?_
            refine g_topN (n_add (a := mn σ 8) (b := 1) rfl rfl) ?_
            refine mp8 X hM hS (v := (mn σ 8) + 1) rfl dX2_hit_94 (fun H locs hM hS => ?_)
            refine lv_aload_n hx hb dX2_hit_97 rfl (lv_at hl 0 rfl) ?_
            refine mf8 X hM dX2_hit_98 ?_
            refine g_topE (z := nI ((mn σ 8) + 1)) (by simp [mn_sn]) ?_
            refine lv_iconst (v := 1) hx hb dX2_hit_101 (by decide) ?_
            refine lv_isub hx hb dX2_hit_102 ?_
            refine g_topN (n_sub (a := (mn σ 8) + 1) (b := 1) rfl rfl (by omega)) ?_
            exact m_iret X hr hM hS (by simp [c_15, c_31, c_41, c_50]) (by simp [m_hit, cl_t, cl_f, c_15, c_31, c_41, c_50]) (Nat.le_refl _) (Nat.le_refl _) dX2_hit_103
          · exact absurd c_62 (by decide)
set_option maxHeartbeats 4000000 in
set_option maxRecDepth 100000 in
/-- holdAll -/
theorem met_X2_holdAll (l : Launch) (K : gK) (mo : Nat) (A : mA) (σ : mS) (t : Nat) (ht : t < 40) : mMet l K mo A yX2_holdAll cX2_holdAll 2 (none) 2 81 [.int (nI (t))] σ (none) (m_holdAll σ t) := by
  intro G hR0
  refine gMet.of (by decide) (Nat.le_of_ble_eq_true rfl) (fun p e s m below meth c ls hx hb X hr hin hG hS hl => ?_)
  have X : gC K p s m _ meth c cX2_holdAll 2 "KalmanQuayModel" := X
  have hM := mPre hR0 hG
  have hl : lv_has ls 2 [(0, .ref (mo)), (1, .int (nI (t)))] := hl
  refine lv_aload_n hx hb dX2_holdAll_0 rfl (lv_at hl 0 rfl) ?_
  refine mf25 X hM dX2_holdAll_1 ?_
  refine lv_iload_n hx hb dX2_holdAll_4 rfl (lv_at hl 1 rfl) ?_
  refine m_aaN X hM rfl (by omega) dX2_holdAll_5 ?_
  refine lv_iconst (v := 0) hx hb dX2_holdAll_6 (by decide) ?_
  refine lv_aload_n hx hb dX2_holdAll_7 rfl (lv_at hl 0 rfl) ?_
  refine mf25 X hM dX2_holdAll_8 ?_
  refine lv_iload_n hx hb dX2_holdAll_11 rfl (lv_at hl 1 rfl) ?_
  refine m_aaN X hM rfl (by omega) dX2_holdAll_12 ?_
  refine lv_iconst (v := 0) hx hb dX2_holdAll_13 (by decide) ?_
  refine m_ldN X hM rfl (by omega) (by decide) dX2_holdAll_14 ?_
  refine lv_ldc2 (v := (-33554432)) hx hb X.1.2.2.2.1 (X.1.2.2.2.2 _ q1483) dX2_holdAll_15 ?_
  refine lv_ldc2 (v := 33554432) hx hb X.1.2.2.2.1 (X.1.2.2.2.2 _ q1484) dX2_holdAll_18 ?_
  refine m_callP X (met_X2_hold l K (mN σ t 0) ((-33554432)) (33554432) ) gp_X2_hold rfl q1485 q1486 q42 q1487 hM hS hl ⟨Nat.le_of_ble_eq_true rfl, Nat.le_of_ble_eq_true rfl⟩ ⟨Nat.le_refl _, Nat.le_refl _⟩ (rest := [.int (0), .ref (A.2.1 t)]) (Nat.le_of_ble_eq_true rfl) rfl dX2_holdAll_21 (fun H locs hM hS => ?_)
  refine W.eq (g2 := F0 m 24 ls [.long (l_hold (mN σ t 0) (-33554432) 33554432), .int (0), .ref (A.2.1 t)]) rfl ?_
  refine m_stN X hM hS rfl (by omega) (by decide) dX2_holdAll_24 (fun H locs hM hS => ?_)
  refine lv_aload_n hx hb dX2_holdAll_25 rfl (lv_at hl 0 rfl) ?_
  refine mf25 X hM dX2_holdAll_26 ?_
  refine lv_iload_n hx hb dX2_holdAll_29 rfl (lv_at hl 1 rfl) ?_
  refine m_aaN X hM rfl (by omega) dX2_holdAll_30 ?_
  refine lv_iconst (v := 1) hx hb dX2_holdAll_31 (by decide) ?_
  refine lv_aload_n hx hb dX2_holdAll_32 rfl (lv_at hl 0 rfl) ?_
  refine mf25 X hM dX2_holdAll_33 ?_
  refine lv_iload_n hx hb dX2_holdAll_36 rfl (lv_at hl 1 rfl) ?_
  refine m_aaN X hM rfl (by omega) dX2_holdAll_37 ?_
  refine lv_iconst (v := 1) hx hb dX2_holdAll_38 (by decide) ?_
  refine m_ldN X hM rfl (by omega) (by decide) dX2_holdAll_39 ?_
  refine g_topL (z := mN σ t 1) (by simp [mN_sN]) ?_
  refine lv_ldc2 (v := (-16777216)) hx hb X.1.2.2.2.1 (X.1.2.2.2.2 _ q1490) dX2_holdAll_40 ?_
  refine lv_ldc2 (v := 16777216) hx hb X.1.2.2.2.1 (X.1.2.2.2.2 _ q1491) dX2_holdAll_43 ?_
  refine m_callP X (met_X2_hold l K (mN σ t 1) ((-16777216)) (16777216) ) gp_X2_hold rfl q1485 q1486 q42 q1487 hM hS hl ⟨Nat.le_of_ble_eq_true rfl, Nat.le_of_ble_eq_true rfl⟩ ⟨Nat.le_refl _, Nat.le_refl _⟩ (rest := [.int (1), .ref (A.2.1 t)]) (Nat.le_of_ble_eq_true rfl) rfl dX2_holdAll_46 (fun H locs hM hS => ?_)
  refine W.eq (g2 := F0 m 49 ls [.long (l_hold (mN σ t 1) (-16777216) 16777216), .int (1), .ref (A.2.1 t)]) rfl ?_
  refine m_stN X hM hS rfl (by omega) (by decide) dX2_holdAll_49 (fun H locs hM hS => ?_)
  refine lv_aload_n hx hb dX2_holdAll_50 rfl (lv_at hl 0 rfl) ?_
  refine mf25 X hM dX2_holdAll_51 ?_
  refine lv_iload_n hx hb dX2_holdAll_54 rfl (lv_at hl 1 rfl) ?_
  refine m_aaN X hM rfl (by omega) dX2_holdAll_55 ?_
  refine lv_iconst (v := 2) hx hb dX2_holdAll_56 (by decide) ?_
  refine lv_aload_n hx hb dX2_holdAll_57 rfl (lv_at hl 0 rfl) ?_
  refine mf25 X hM dX2_holdAll_58 ?_
  refine lv_iload_n hx hb dX2_holdAll_61 rfl (lv_at hl 1 rfl) ?_
  refine m_aaN X hM rfl (by omega) dX2_holdAll_62 ?_
  refine lv_iconst (v := 2) hx hb dX2_holdAll_63 (by decide) ?_
  refine m_ldN X hM rfl (by omega) (by decide) dX2_holdAll_64 ?_
  refine g_topL (z := mN σ t 2) (by simp [mN_sN]) ?_
  refine lv_lconst (v := 1) hx hb dX2_holdAll_65 rfl ?_
  refine lv_ldc2 (v := 16777216) hx hb X.1.2.2.2.1 (X.1.2.2.2.2 _ q1491) dX2_holdAll_66 ?_
  refine m_callP X (met_X2_hold l K (mN σ t 2) (1) (16777216) ) gp_X2_hold rfl q1485 q1486 q42 q1487 hM hS hl ⟨Nat.le_of_ble_eq_true rfl, Nat.le_of_ble_eq_true rfl⟩ ⟨Nat.le_refl _, Nat.le_refl _⟩ (rest := [.int (2), .ref (A.2.1 t)]) (Nat.le_of_ble_eq_true rfl) rfl dX2_holdAll_69 (fun H locs hM hS => ?_)
  refine W.eq (g2 := F0 m 72 ls [.long (l_hold (mN σ t 2) 1 16777216), .int (2), .ref (A.2.1 t)]) rfl ?_
  refine m_stN X hM hS rfl (by omega) (by decide) dX2_holdAll_72 (fun H locs hM hS => ?_)
  refine lv_aload_n hx hb dX2_holdAll_73 rfl (lv_at hl 0 rfl) ?_
  refine mf25 X hM dX2_holdAll_74 ?_
  refine lv_iload_n hx hb dX2_holdAll_77 rfl (lv_at hl 1 rfl) ?_
  refine m_aaN X hM rfl (by omega) dX2_holdAll_78 ?_
  refine lv_iconst (v := 3) hx hb dX2_holdAll_79 (by decide) ?_
  refine lv_aload_n hx hb dX2_holdAll_80 rfl (lv_at hl 0 rfl) ?_
  refine mf25 X hM dX2_holdAll_81 ?_
  refine lv_iload_n hx hb dX2_holdAll_84 rfl (lv_at hl 1 rfl) ?_
  refine m_aaN X hM rfl (by omega) dX2_holdAll_85 ?_
  refine lv_iconst (v := 3) hx hb dX2_holdAll_86 (by decide) ?_
  refine m_ldN X hM rfl (by omega) (by decide) dX2_holdAll_87 ?_
  refine g_topL (z := mN σ t 3) (by simp [mN_sN]) ?_
  refine lv_ldc2 (v := (-16777216)) hx hb X.1.2.2.2.1 (X.1.2.2.2.2 _ q1490) dX2_holdAll_88 ?_
  refine lv_ldc2 (v := 16777216) hx hb X.1.2.2.2.1 (X.1.2.2.2.2 _ q1491) dX2_holdAll_91 ?_
  refine m_callP X (met_X2_hold l K (mN σ t 3) ((-16777216)) (16777216) ) gp_X2_hold rfl q1485 q1486 q42 q1487 hM hS hl ⟨Nat.le_of_ble_eq_true rfl, Nat.le_of_ble_eq_true rfl⟩ ⟨Nat.le_refl _, Nat.le_refl _⟩ (rest := [.int (3), .ref (A.2.1 t)]) (Nat.le_of_ble_eq_true rfl) rfl dX2_holdAll_94 (fun H locs hM hS => ?_)
  refine W.eq (g2 := F0 m 97 ls [.long (l_hold (mN σ t 3) (-16777216) 16777216), .int (3), .ref (A.2.1 t)]) rfl ?_
  refine m_stN X hM hS rfl (by omega) (by decide) dX2_holdAll_97 (fun H locs hM hS => ?_)
  refine lv_aload_n hx hb dX2_holdAll_98 rfl (lv_at hl 0 rfl) ?_
  refine mf25 X hM dX2_holdAll_99 ?_
  refine lv_iload_n hx hb dX2_holdAll_102 rfl (lv_at hl 1 rfl) ?_
  refine m_aaN X hM rfl (by omega) dX2_holdAll_103 ?_
  refine lv_iconst (v := 4) hx hb dX2_holdAll_104 (by decide) ?_
  refine lv_aload_n hx hb dX2_holdAll_105 rfl (lv_at hl 0 rfl) ?_
  refine mf25 X hM dX2_holdAll_106 ?_
  refine lv_iload_n hx hb dX2_holdAll_109 rfl (lv_at hl 1 rfl) ?_
  refine m_aaN X hM rfl (by omega) dX2_holdAll_110 ?_
  refine lv_iconst (v := 4) hx hb dX2_holdAll_111 (by decide) ?_
  refine m_ldN X hM rfl (by omega) (by decide) dX2_holdAll_112 ?_
  refine g_topL (z := mN σ t 4) (by simp [mN_sN]) ?_
  refine lv_lconst (v := 1) hx hb dX2_holdAll_113 rfl ?_
  refine lv_ldc2 (v := 16777216) hx hb X.1.2.2.2.1 (X.1.2.2.2.2 _ q1491) dX2_holdAll_114 ?_
  refine m_callP X (met_X2_hold l K (mN σ t 4) (1) (16777216) ) gp_X2_hold rfl q1485 q1486 q42 q1487 hM hS hl ⟨Nat.le_of_ble_eq_true rfl, Nat.le_of_ble_eq_true rfl⟩ ⟨Nat.le_refl _, Nat.le_refl _⟩ (rest := [.int (4), .ref (A.2.1 t)]) (Nat.le_of_ble_eq_true rfl) rfl dX2_holdAll_117 (fun H locs hM hS => ?_)
  refine W.eq (g2 := F0 m 120 ls [.long (l_hold (mN σ t 4) 1 16777216), .int (4), .ref (A.2.1 t)]) rfl ?_
  refine m_stN X hM hS rfl (by omega) (by decide) dX2_holdAll_120 (fun H locs hM hS => ?_)
  exact m_vret X hr hM hS rfl (by simp [m_holdAll, mN_sN]) (Nat.le_refl _) (Nat.le_refl _) dX2_holdAll_121
set_option maxHeartbeats 4000000 in
set_option maxRecDepth 100000 in
/-- spread -/
theorem met_X2_spread (l : Launch) (K : gK) (mo : Nat) (A : mA) (σ : mS) (t s0 : Nat) (ht : t < 40) (hs0 : s0 < 4) : mMet l K mo A yX2_spread cX2_spread 3 (some .long) 0 0 [.int (nI (t)), .int (nI (s0))] σ (some (.long (m_spread σ t s0))) (σ) := by
  intro G hR0
  refine gMet.of (by decide) (Nat.le_of_ble_eq_true rfl) (fun p e s m below meth c ls hx hb X hr hin hG hS hl => ?_)
  have X : gC K p s m _ meth c cX2_spread 3 "KalmanQuayModel" := X
  have hM := mPre hR0 hG
  have hl : lv_has ls 3 [(0, .ref (mo)), (1, .int (nI (t))), (2, .int (nI (s0)))] := hl
  refine lv_aload_n hx hb dX2_spread_0 rfl (lv_at hl 0 rfl) ?_
  refine mf25 X hM dX2_spread_1 ?_
  refine lv_iload_n hx hb dX2_spread_4 rfl (lv_at hl 1 rfl) ?_
  refine m_aaN X hM rfl (by omega) dX2_spread_5 ?_
  refine lv_iconst (v := 2) hx hb dX2_spread_6 (by decide) ?_
  refine m_ldN X hM rfl (by omega) (by decide) dX2_spread_7 ?_
  refine lv_ldc2 (v := 256) hx hb X.1.2.2.2.1 (X.1.2.2.2.2 _ q1511) dX2_spread_8 ?_
  refine lv_aload_n hx hb dX2_spread_11 rfl (lv_at hl 0 rfl) ?_
  refine mf6 X hM dX2_spread_12 ?_
  refine lv_iload_n hx hb dX2_spread_15 rfl (lv_at hl 2 rfl) ?_
  refine m_lda X hM 6 4 rfl rfl (by omega) (by decide) dX2_spread_16 ?_
  refine lv_i2l hx hb dX2_spread_17 rfl ?_
  refine lv_lmul hx hb dX2_spread_18 ?_
  refine lv_ladd hx hb dX2_spread_19 ?_
  exact m_lret X hr hM hS rfl rfl (Nat.le_refl _) (Nat.le_refl _) dX2_spread_20
set_option maxHeartbeats 4000000 in
set_option maxRecDepth 100000 in
/-- apartOf -/
theorem met_X2_apartOf (l : Launch) (K : gK) (mo : Nat) (A : mA) (σ : mS) (t h : Nat) (ht : t < 40) (hh : h < 8) : mMet l K mo A yX2_apartOf cX2_apartOf 3 (some .long) 0 0 [.int (nI (t)), .int (nI (h))] σ (some (.long (m_apartOf σ t h))) (σ) := by
  intro G hR0
  refine gMet.of (by decide) (Nat.le_of_ble_eq_true rfl) (fun p e s m below meth c ls hx hb X hr hin hG hS hl => ?_)
  have X : gC K p s m _ meth c cX2_apartOf 3 "KalmanQuayModel" := X
  have hM := mPre hR0 hG
  have hl : lv_has ls 3 [(0, .ref (mo)), (1, .int (nI (t))), (2, .int (nI (h)))] := hl
  refine lv_ldc2 (v := 256) hx hb X.1.2.2.2.1 (X.1.2.2.2.2 _ q1511) dX2_apartOf_0 ?_
  refine lv_aload_n hx hb dX2_apartOf_3 rfl (lv_at hl 0 rfl) ?_
  refine mf10 X hM dX2_apartOf_4 ?_
  refine lv_iload_n hx hb dX2_apartOf_7 rfl (lv_at hl 2 rfl) ?_
  refine m_lda X hM 10 8 rfl rfl (by omega) (by decide) dX2_apartOf_8 ?_
  refine lv_i2l hx hb dX2_apartOf_9 rfl ?_
  refine lv_lmul hx hb dX2_apartOf_10 ?_
  refine lv_aload_n hx hb dX2_apartOf_11 rfl (lv_at hl 0 rfl) ?_
  refine mf25 X hM dX2_apartOf_12 ?_
  refine lv_iload_n hx hb dX2_apartOf_15 rfl (lv_at hl 1 rfl) ?_
  refine m_aaN X hM rfl (by omega) dX2_apartOf_16 ?_
  refine lv_iconst (v := 0) hx hb dX2_apartOf_17 (by decide) ?_
  refine m_ldN X hM rfl (by omega) (by decide) dX2_apartOf_18 ?_
  refine lv_lsub hx hb dX2_apartOf_19 ?_
  exact m_lret X hr hM hS rfl rfl (Nat.le_refl _) (Nat.le_refl _) dX2_apartOf_20
set_option maxHeartbeats 4000000 in
set_option maxRecDepth 100000 in
/-- isInGate -/
theorem met_X2_isInGate (l : Launch) (K : gK) (mo : Nat) (A : mA) (σ : mS) (t h : Nat) (ht : t < 40) (hh : h < 8) (hs0 : mb σ 9 h < 4) : mMet l K mo A yX2_isInGate cX2_isInGate 5 (some .boolean) 1 38 [.int (nI (t)), .int (nI (h))] σ (some (.int (gb (m_isInGate σ t h)))) (σ) := by
  intro G hR0
  refine gMet.of (by decide) (Nat.le_of_ble_eq_true rfl) (fun p e s m below meth c ls hx hb X hr hin hG hS hl => ?_)
  have X : gC K p s m _ meth c cX2_isInGate 5 "KalmanQuayModel" := X
  have hM := mPre hR0 hG
  have hl : lv_has ls 5 [(0, .ref (mo)), (1, .int (nI (t))), (2, .int (nI (h)))] := hl
  refine lv_aload_n hx hb dX2_isInGate_0 rfl (lv_at hl 0 rfl) ?_
  refine lv_iload_n hx hb dX2_isInGate_1 rfl (lv_at hl 1 rfl) ?_
  refine lv_iload_n hx hb dX2_isInGate_2 rfl (lv_at hl 2 rfl) ?_
  refine m_call X (met_X2_apartOf l K mo A σ (t) (h) (by omega) (by omega)) gp_X2_apartOf rfl q1507 q1509 qs22 q42 q1510 hM hS hl ⟨Nat.le_of_ble_eq_true rfl, Nat.le_of_ble_eq_true rfl⟩ ⟨Nat.le_refl _, Nat.le_refl _⟩ (rest := []) (Nat.le_of_ble_eq_true rfl) rfl dX2_isInGate_3 (fun H locs hM hS => ?_)
  refine W.eq (g2 := F0 m 6 ls [.long (m_apartOf σ t h)]) rfl ?_
  refine lv_lstore_n (lv' := [(3, .long (m_apartOf σ t h)), (0, .ref (mo)), (1, .int (nI (t))), (2, .int (nI (h)))]) hx hb dX2_isInGate_6 rfl hl (by decide) rfl (fun ls hl => ?_)
  refine lv_ldc2 (v := 16) hx hb X.1.2.2.2.1 (X.1.2.2.2.2 _ q1512) dX2_isInGate_7 ?_
  refine lv_lload_n hx hb dX2_isInGate_10 rfl (lv_at hl 0 rfl) ?_
  refine lv_lmul hx hb dX2_isInGate_11 ?_
  refine lv_lload_n hx hb dX2_isInGate_12 rfl (lv_at hl 0 rfl) ?_
  refine lv_lmul hx hb dX2_isInGate_13 ?_
  refine lv_aload_n hx hb dX2_isInGate_14 rfl (lv_at hl 1 rfl) ?_
  refine mf1 X hM dX2_isInGate_15 ?_
  refine lv_i2l hx hb dX2_isInGate_18 rfl ?_
  refine lv_aload_n hx hb dX2_isInGate_19 rfl (lv_at hl 1 rfl) ?_
  refine mf1 X hM dX2_isInGate_20 ?_
  refine lv_i2l hx hb dX2_isInGate_23 rfl ?_
  refine lv_lmul hx hb dX2_isInGate_24 ?_
  refine lv_aload_n hx hb dX2_isInGate_25 rfl (lv_at hl 1 rfl) ?_
  refine lv_iload_n hx hb dX2_isInGate_26 rfl (lv_at hl 2 rfl) ?_
  refine lv_aload_n hx hb dX2_isInGate_27 rfl (lv_at hl 1 rfl) ?_
  refine mf9 X hM dX2_isInGate_28 ?_
  refine lv_iload_n hx hb dX2_isInGate_31 rfl (lv_at hl 3 rfl) ?_
  refine m_ldb X hM 9 8 rfl rfl (by omega) (by decide) dX2_isInGate_32 ?_
  refine m_call X (met_X2_spread l K mo A σ (t) (mb σ 9 h) (by omega) (by omega)) gp_X2_spread rfl q1513 q1515 qs23 q42 q1516 hM hS hl ⟨Nat.le_of_ble_eq_true rfl, Nat.le_of_ble_eq_true rfl⟩ ⟨Nat.le_refl _, Nat.le_refl _⟩ (rest := [.long (((mz σ 1).toInt64) * ((mz σ 1).toInt64)), .long ((16 * (m_apartOf σ t h)) * (m_apartOf σ t h))]) (Nat.le_of_ble_eq_true rfl) rfl dX2_isInGate_33 (fun H locs hM hS => ?_)
  refine W.eq (g2 := F0 m 36 ls [.long (m_spread σ t (mb σ 9 h)), .long (((mz σ 1).toInt64) * ((mz σ 1).toInt64)), .long ((16 * (m_apartOf σ t h)) * (m_apartOf σ t h))]) rfl ?_
  refine lv_lmul hx hb dX2_isInGate_36 ?_
  refine lv_ldc2 (v := 256) hx hb X.1.2.2.2.1 (X.1.2.2.2.2 _ q1511) dX2_isInGate_37 ?_
  refine lv_lmul hx hb dX2_isInGate_40 ?_
  refine g_lif_gt hx hb 49 dX2_isInGate_41 dX2_isInGate_42 (by decide) (fun c_41 => ?_) (fun c_41 => ?_)
  · skip
    refine lv_iconst (v := 0) hx hb dX2_isInGate_49 (by decide) ?_
    exact m_zret X hr hM hS rfl (by rw [m_isInGate, decide_eq_false (Int64.not_le.mpr c_41)]; rfl) rfl (Nat.le_refl _) (Nat.le_refl _) dX2_isInGate_50
  · skip
    refine lv_iconst (v := 1) hx hb dX2_isInGate_45 (by decide) ?_
    refine lv_goto (tgt := 50) hx hb dX2_isInGate_46 (by decide) ?_
    exact m_zret X hr hM hS rfl (by rw [m_isInGate, decide_eq_true (Int64.not_lt.mp c_41)]; rfl) rfl (Nat.le_refl _) (Nat.le_refl _) dX2_isInGate_50
set_option maxHeartbeats 4000000 in
set_option maxRecDepth 100000 in
/-- costOf -/
theorem met_X2_costOf (l : Launch) (K : gK) (mo : Nat) (A : mA) (σ : mS) (t h : Nat) (ht : t < 40) (hh : h < 8) (hs0 : mb σ 9 h < 4) (hz : ¬ m_spread σ t (mb σ 9 h) = 0) : mMet l K mo A yX2_costOf cX2_costOf 5 (some .long) 1 38 [.int (nI (t)), .int (nI (h))] σ (some (.long (m_costOf σ t h))) (σ) := by
  intro G hR0
  refine gMet.of (by decide) (Nat.le_of_ble_eq_true rfl) (fun p e s m below meth c ls hx hb X hr hin hG hS hl => ?_)
  have X : gC K p s m _ meth c cX2_costOf 5 "KalmanQuayModel" := X
  have hM := mPre hR0 hG
  have hl : lv_has ls 5 [(0, .ref (mo)), (1, .int (nI (t))), (2, .int (nI (h)))] := hl
  refine lv_aload_n hx hb dX2_costOf_0 rfl (lv_at hl 0 rfl) ?_
  refine lv_iload_n hx hb dX2_costOf_1 rfl (lv_at hl 1 rfl) ?_
  refine lv_iload_n hx hb dX2_costOf_2 rfl (lv_at hl 2 rfl) ?_
  refine m_call X (met_X2_apartOf l K mo A σ (t) (h) (by omega) (by omega)) gp_X2_apartOf rfl q1507 q1509 qs22 q42 q1510 hM hS hl ⟨Nat.le_of_ble_eq_true rfl, Nat.le_of_ble_eq_true rfl⟩ ⟨Nat.le_refl _, Nat.le_refl _⟩ (rest := []) (Nat.le_of_ble_eq_true rfl) rfl dX2_costOf_3 (fun H locs hM hS => ?_)
  refine W.eq (g2 := F0 m 6 ls [.long (m_apartOf σ t h)]) rfl ?_
  refine lv_lstore_n (lv' := [(3, .long (m_apartOf σ t h)), (0, .ref (mo)), (1, .int (nI (t))), (2, .int (nI (h)))]) hx hb dX2_costOf_6 rfl hl (by decide) rfl (fun ls hl => ?_)
  refine lv_lload_n hx hb dX2_costOf_7 rfl (lv_at hl 0 rfl) ?_
  refine lv_lload_n hx hb dX2_costOf_8 rfl (lv_at hl 0 rfl) ?_
  refine lv_lmul hx hb dX2_costOf_9 ?_
  refine lv_aload_n hx hb dX2_costOf_10 rfl (lv_at hl 1 rfl) ?_
  refine lv_iload_n hx hb dX2_costOf_11 rfl (lv_at hl 2 rfl) ?_
  refine lv_aload_n hx hb dX2_costOf_12 rfl (lv_at hl 1 rfl) ?_
  refine mf9 X hM dX2_costOf_13 ?_
  refine lv_iload_n hx hb dX2_costOf_16 rfl (lv_at hl 3 rfl) ?_
  refine m_ldb X hM 9 8 rfl rfl (by omega) (by decide) dX2_costOf_17 ?_
  refine m_call X (met_X2_spread l K mo A σ (t) (mb σ 9 h) (by omega) (by omega)) gp_X2_spread rfl q1513 q1515 qs23 q42 q1516 hM hS hl ⟨Nat.le_of_ble_eq_true rfl, Nat.le_of_ble_eq_true rfl⟩ ⟨Nat.le_refl _, Nat.le_refl _⟩ (rest := [.long ((m_apartOf σ t h) * (m_apartOf σ t h))]) (Nat.le_of_ble_eq_true rfl) rfl dX2_costOf_18 (fun H locs hM hS => ?_)
  refine W.eq (g2 := F0 m 21 ls [.long (m_spread σ t (mb σ 9 h)), .long ((m_apartOf σ t h) * (m_apartOf σ t h))]) rfl ?_
  refine lv_ldiv hx hb dX2_costOf_21 hz ?_
  exact m_lret X hr hM hS rfl rfl (Nat.le_refl _) (Nat.le_refl _) dX2_costOf_22
set_option maxHeartbeats 4000000 in
set_option maxRecDepth 100000 in
/-- note -/
theorem met_X2_note (l : Launch) (K : gK) (mo : Nat) (A : mA) (σ : mS) (t h : Nat) (ht : t < 40) (hh : h < 8) (hs0 : mb σ 9 h < 4) (hz : ¬ (ma σ 6 (mb σ 9 h)).toInt64 = 0) : mMet l K mo A yX2_note cX2_note 7 (none) 1 40 [.int (nI (t)), .int (nI (h))] σ (none) (m_note σ t h) := by
  intro G hR0
  refine gMet.of (by decide) (Nat.le_of_ble_eq_true rfl) (fun p e s m below meth c ls hx hb X hr hin hG hS hl => ?_)
  have X : gC K p s m _ meth c cX2_note 7 "KalmanQuayModel" := X
  have hM := mPre hR0 hG
  have hl : lv_has ls 7 [(0, .ref (mo)), (1, .int (nI (t))), (2, .int (nI (h)))] := hl
  refine lv_lconst (v := 1) hx hb dX2_note_0 rfl ?_
  refine lv_ldc2 (v := 256) hx hb X.1.2.2.2.1 (X.1.2.2.2.2 _ q1511) dX2_note_1 ?_
  refine lv_aload_n hx hb dX2_note_4 rfl (lv_at hl 0 rfl) ?_
  refine mf6 X hM dX2_note_5 ?_
  refine lv_aload_n hx hb dX2_note_8 rfl (lv_at hl 0 rfl) ?_
  refine mf9 X hM dX2_note_9 ?_
  refine lv_iload_n hx hb dX2_note_12 rfl (lv_at hl 2 rfl) ?_
  refine m_ldb X hM 9 8 rfl rfl (by omega) (by decide) dX2_note_13 ?_
  refine m_lda X hM 6 4 rfl rfl (by omega) (by decide) dX2_note_14 ?_
  refine lv_i2l hx hb dX2_note_15 rfl ?_
  refine lv_ldiv hx hb dX2_note_16 hz ?_
  refine va_mmax_long hx hb (X.1.2.2.1.trans hl.1.symm) X.1.2.2.2.1 (X.1.2.2.2.2 _ q1489) (X.1.2.2.2.2 _ q570) (X.1.2.2.2.2 _ q52) (X.1.2.2.2.2 _ q571) (Nat.le_of_ble_eq_true rfl) (Nat.le_of_ble_eq_true rfl) (Nat.le_refl _) (Nat.le_refl _) dX2_note_17 ?_
  refine W.eq (g2 := F0 m 20 ls [.long (l_max 1 (256 / ((ma σ 6 (mb σ 9 h)).toInt64)))]) rfl ?_
  refine lv_lstore_n (lv' := [(3, .long (l_max 1 (256 / ((ma σ 6 (mb σ 9 h)).toInt64)))), (0, .ref (mo)), (1, .int (nI (t))), (2, .int (nI (h)))]) hx hb dX2_note_20 rfl hl (by decide) rfl (fun ls hl => ?_)
  refine lv_aload_n hx hb dX2_note_21 rfl (lv_at hl 1 rfl) ?_
  refine mf10 X hM dX2_note_22 ?_
  refine lv_iload_n hx hb dX2_note_25 rfl (lv_at hl 3 rfl) ?_
  refine m_lda X hM 10 8 rfl rfl (by omega) (by decide) dX2_note_26 ?_
  refine lv_i2l hx hb dX2_note_27 rfl ?_
  refine lv_lstore (lv' := [(5, .long ((ma σ 10 h).toInt64)), (3, .long (l_max 1 (256 / ((ma σ 6 (mb σ 9 h)).toInt64)))), (0, .ref (mo)), (1, .int (nI (t))), (2, .int (nI (h)))]) hx hb dX2_note_28 hl (by decide) rfl (fun ls hl => ?_)
  refine lv_aload_n hx hb dX2_note_30 rfl (lv_at hl 2 rfl) ?_
  refine mf24 X hM dX2_note_31 ?_
  refine lv_iload_n hx hb dX2_note_34 rfl (lv_at hl 3 rfl) ?_
  refine lv_dup2_11 hx hb dX2_note_35 rfl rfl ?_
  refine m_ldb X hM 24 40 rfl rfl (by omega) (by decide) dX2_note_36 ?_
  refine lv_iconst (v := 1) hx hb dX2_note_37 (by decide) ?_
  refine lv_iadd hx hb dX2_note_38 ?_
  refine g_topN (n_add (a := mb σ 24 t) (b := 1) rfl rfl) ?_
  refine m_stb X hM hS 24 40 (fun _ => rfl) rfl (by omega) (by decide) (by decide) (v := (mb σ 24 t) + 1) rfl dX2_note_39 (fun H locs hM hS => ?_)
  refine lv_aload_n hx hb dX2_note_40 rfl (lv_at hl 2 rfl) ?_
  refine mf28 X hM dX2_note_41 ?_
  refine lv_iload_n hx hb dX2_note_44 rfl (lv_at hl 3 rfl) ?_
  refine lv_dup2_11 hx hb dX2_note_45 rfl rfl ?_
  refine m_ldj X hM 28 40 rfl rfl (by omega) (by decide) dX2_note_46 ?_
  refine g_topL (z := mj σ 28 t) (by simp [mj_sb]) ?_
  refine lv_lload_n hx hb dX2_note_47 rfl (lv_at hl 1 rfl) ?_
  refine lv_ladd hx hb dX2_note_48 ?_
  refine m_stj X hM hS 28 40 (fun _ => rfl) rfl (by omega) (by decide) (by decide) dX2_note_49 (fun H locs hM hS => ?_)
  refine lv_aload_n hx hb dX2_note_50 rfl (lv_at hl 2 rfl) ?_
  refine mf29 X hM dX2_note_51 ?_
  refine lv_iload_n hx hb dX2_note_54 rfl (lv_at hl 3 rfl) ?_
  refine lv_dup2_11 hx hb dX2_note_55 rfl rfl ?_
  refine m_ldj X hM 29 40 rfl rfl (by omega) (by decide) dX2_note_56 ?_
  refine g_topL (z := mj σ 29 t) (by simp [mj_sj, mj_sb]) ?_
  refine lv_lload_n hx hb dX2_note_57 rfl (lv_at hl 1 rfl) ?_
  refine lv_aload_n hx hb dX2_note_58 rfl (lv_at hl 2 rfl) ?_
  refine mf7 X hM dX2_note_59 ?_
  refine g_topE (z := nI (mn σ 7)) (by simp [mn_sj, mn_sb]) ?_
  refine lv_i2l hx hb dX2_note_62 rfl ?_
  refine lv_lmul hx hb dX2_note_63 ?_
  refine lv_ladd hx hb dX2_note_64 ?_
  refine m_stj X hM hS 29 40 (fun _ => rfl) rfl (by omega) (by decide) (by decide) dX2_note_65 (fun H locs hM hS => ?_)
  refine lv_aload_n hx hb dX2_note_66 rfl (lv_at hl 2 rfl) ?_
  refine mf30 X hM dX2_note_67 ?_
  refine lv_iload_n hx hb dX2_note_70 rfl (lv_at hl 3 rfl) ?_
  refine lv_dup2_11 hx hb dX2_note_71 rfl rfl ?_
  refine m_ldj X hM 30 40 rfl rfl (by omega) (by decide) dX2_note_72 ?_
  refine g_topL (z := mj σ 30 t) (by simp [mj_sj, mj_sb]) ?_
  refine lv_lload_n hx hb dX2_note_73 rfl (lv_at hl 1 rfl) ?_
  refine lv_aload_n hx hb dX2_note_74 rfl (lv_at hl 2 rfl) ?_
  refine mf7 X hM dX2_note_75 ?_
  refine g_topE (z := nI (mn σ 7)) (by simp [mn_sj, mn_sb]) ?_
  refine lv_i2l hx hb dX2_note_78 rfl ?_
  refine lv_lmul hx hb dX2_note_79 ?_
  refine lv_aload_n hx hb dX2_note_80 rfl (lv_at hl 2 rfl) ?_
  refine mf7 X hM dX2_note_81 ?_
  refine g_topE (z := nI (mn σ 7)) (by simp [mn_sj, mn_sb]) ?_
  refine lv_i2l hx hb dX2_note_84 rfl ?_
  refine lv_lmul hx hb dX2_note_85 ?_
  refine lv_ladd hx hb dX2_note_86 ?_
  refine m_stj X hM hS 30 40 (fun _ => rfl) rfl (by omega) (by decide) (by decide) dX2_note_87 (fun H locs hM hS => ?_)
  refine lv_aload_n hx hb dX2_note_88 rfl (lv_at hl 2 rfl) ?_
  refine mf31 X hM dX2_note_89 ?_
  refine lv_iload_n hx hb dX2_note_92 rfl (lv_at hl 3 rfl) ?_
  refine lv_dup2_11 hx hb dX2_note_93 rfl rfl ?_
  refine m_ldj X hM 31 40 rfl rfl (by omega) (by decide) dX2_note_94 ?_
  refine g_topL (z := mj σ 31 t) (by simp [mj_sj, mj_sb]) ?_
  refine lv_lload_n hx hb dX2_note_95 rfl (lv_at hl 1 rfl) ?_
  refine lv_lload hx hb dX2_note_96 (lv_at hl 0 rfl) ?_
  refine lv_lmul hx hb dX2_note_98 ?_
  refine lv_ladd hx hb dX2_note_99 ?_
  refine m_stj X hM hS 31 40 (fun _ => rfl) rfl (by omega) (by decide) (by decide) dX2_note_100 (fun H locs hM hS => ?_)
  refine lv_aload_n hx hb dX2_note_101 rfl (lv_at hl 2 rfl) ?_
  refine mf32 X hM dX2_note_102 ?_
  refine lv_iload_n hx hb dX2_note_105 rfl (lv_at hl 3 rfl) ?_
  refine lv_dup2_11 hx hb dX2_note_106 rfl rfl ?_
  refine m_ldj X hM 32 40 rfl rfl (by omega) (by decide) dX2_note_107 ?_
  refine g_topL (z := mj σ 32 t) (by simp [mj_sj, mj_sb]) ?_
  refine lv_lload_n hx hb dX2_note_108 rfl (lv_at hl 1 rfl) ?_
  refine lv_aload_n hx hb dX2_note_109 rfl (lv_at hl 2 rfl) ?_
  refine mf7 X hM dX2_note_110 ?_
  refine g_topE (z := nI (mn σ 7)) (by simp [mn_sj, mn_sb]) ?_
  refine lv_i2l hx hb dX2_note_113 rfl ?_
  refine lv_lmul hx hb dX2_note_114 ?_
  refine lv_lload hx hb dX2_note_115 (lv_at hl 0 rfl) ?_
  refine lv_lmul hx hb dX2_note_117 ?_
  refine lv_ladd hx hb dX2_note_118 ?_
  refine m_stj X hM hS 32 40 (fun _ => rfl) rfl (by omega) (by decide) (by decide) dX2_note_119 (fun H locs hM hS => ?_)
  exact m_vret X hr hM hS rfl rfl (Nat.le_refl _) (Nat.le_refl _) dX2_note_120
