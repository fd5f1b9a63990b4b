/-! the reference: fourth lot -/
set_option maxRecDepth 100000
theorem gp_X2_placeBy : gPar yX2_placeBy 1 := ⟨⟨by decide, by decide⟩, by decide +kernel⟩
theorem gp_X2_speedBy : gPar yX2_speedBy 1 := ⟨⟨by decide, by decide⟩, by decide +kernel⟩
set_option maxHeartbeats 4000000 in
set_option maxRecDepth 100000 in
/-- placeBy -/
theorem met_X2_placeBy (l : Launch) (K : gK) (mo : Nat) (A : mA) (σ : mS) (t : Nat) (ht : t < 40) (hw : ¬ mj σ 28 t = 0) : mMet l K mo A yX2_placeBy cX2_placeBy 2 (some .long) 2 80 [.int (nI (t))] σ (some (.long (m_placeBy σ t))) (σ) := by
  intro G hR0
  refine gMet.of (by decide) (Nat.le_of_ble_eq_true rfl) (fun p e s m below meth c ls hx hb X hr hin hG hS hl => ?_)
  have X : gC K p s m _ meth c cX2_placeBy 2 "KalmanQuayModel" := X
  have hM := mPre hR0 hG
  have hl : lv_has ls 2 [(0, .ref (mo)), (1, .int (nI (t)))] := hl
  refine lv_aload_n hx hb dX2_placeBy_0 rfl (lv_at hl 0 rfl) ?_
  refine lv_iload_n hx hb dX2_placeBy_1 rfl (lv_at hl 1 rfl) ?_
  refine m_call X (met_X2_under l K mo A σ (t) ht) gp_X2_under rfl q1649 q1651 qs35 q42 q1652 hM hS hl ⟨Nat.le_of_ble_eq_true rfl, Nat.le_of_ble_eq_true rfl⟩ ⟨Nat.le_refl _, Nat.le_refl _⟩ (rest := []) (Nat.le_of_ble_eq_true rfl) rfl dX2_placeBy_2 (fun H locs hM hS => ?_)
  refine W.eq (g2 := F0 m 5 ls [.long (m_under σ t)]) rfl ?_
  refine lv_lconst (v := 0) hx hb dX2_placeBy_5 rfl ?_
  refine g_lif_ne hx hb 30 dX2_placeBy_6 dX2_placeBy_7 (by decide) (fun c_6 => ?_) (fun c_6 => ?_)
  · skip
    refine lv_aload_n hx hb dX2_placeBy_30 rfl (lv_at hl 0 rfl) ?_
    refine mf31 X hM dX2_placeBy_31 ?_
    refine lv_iload_n hx hb dX2_placeBy_34 rfl (lv_at hl 1 rfl) ?_
    refine m_ldj X hM 31 40 rfl rfl (by omega) (by decide) dX2_placeBy_35 ?_
    refine lv_ldc2 (v := 256) hx hb X.1.2.2.2.1 (X.1.2.2.2.2 _ q1511) dX2_placeBy_36 ?_
    refine lv_lmul hx hb dX2_placeBy_39 ?_
    refine lv_aload_n hx hb dX2_placeBy_40 rfl (lv_at hl 0 rfl) ?_
    refine mf28 X hM dX2_placeBy_41 ?_
    refine lv_iload_n hx hb dX2_placeBy_44 rfl (lv_at hl 1 rfl) ?_
    refine m_ldj X hM 28 40 rfl rfl (by omega) (by decide) dX2_placeBy_45 ?_
    refine lv_aload_n hx hb dX2_placeBy_46 rfl (lv_at hl 0 rfl) ?_
    refine mf21 X hM dX2_placeBy_47 ?_
    refine lv_iload_n hx hb dX2_placeBy_50 rfl (lv_at hl 1 rfl) ?_
    refine m_ldb X hM 21 40 rfl rfl (by omega) (by decide) dX2_placeBy_51 ?_
    refine lv_i2l hx hb dX2_placeBy_52 rfl ?_
    refine lv_lmul hx hb dX2_placeBy_53 ?_
    refine lv_aload_n hx hb dX2_placeBy_54 rfl (lv_at hl 0 rfl) ?_
    refine mf29 X hM dX2_placeBy_55 ?_
    refine lv_iload_n hx hb dX2_placeBy_58 rfl (lv_at hl 1 rfl) ?_
    refine m_ldj X hM 29 40 rfl rfl (by omega) (by decide) dX2_placeBy_59 ?_
    refine lv_lsub hx hb dX2_placeBy_60 ?_
    refine lv_aload_n hx hb dX2_placeBy_61 rfl (lv_at hl 0 rfl) ?_
    refine lv_iload_n hx hb dX2_placeBy_62 rfl (lv_at hl 1 rfl) ?_
    refine m_call X (met_X2_speedBy l K mo A σ (t) ht) gp_X2_speedBy rfl q1653 q1655 qs36 q42 q1656 hM hS hl ⟨Nat.le_of_ble_eq_true rfl, Nat.le_of_ble_eq_true rfl⟩ ⟨Nat.le_refl _, Nat.le_refl _⟩ (rest := [.long (((mj σ 28 t) * ((nI (mb σ 21 t)).toInt64)) - (mj σ 29 t)), .long ((mj σ 31 t) * 256)]) (Nat.le_of_ble_eq_true rfl) rfl dX2_placeBy_63 (fun H locs hM hS => ?_)
    refine W.eq (g2 := F0 m 66 ls [.long (m_speedBy σ t), .long (((mj σ 28 t) * ((nI (mb σ 21 t)).toInt64)) - (mj σ 29 t)), .long ((mj σ 31 t) * 256)]) rfl ?_
    refine lv_lmul hx hb dX2_placeBy_66 ?_
    refine lv_ladd hx hb dX2_placeBy_67 ?_
    refine lv_aload_n hx hb dX2_placeBy_68 rfl (lv_at hl 0 rfl) ?_
    refine mf28 X hM dX2_placeBy_69 ?_
    refine lv_iload_n hx hb dX2_placeBy_72 rfl (lv_at hl 1 rfl) ?_
    refine m_ldj X hM 28 40 rfl rfl (by omega) (by decide) dX2_placeBy_73 ?_
    refine m_callP X (met_J11_floorDiv l K (((mj σ 31 t) * 256) + ((((mj σ 28 t) * ((nI (mb σ 21 t)).toInt64)) - (mj σ 29 t)) * (m_speedBy σ t))) (mj σ 28 t) hw) gp_J11_floorDiv rfl q1526 q977 q52 q978 hM hS hl ⟨Nat.le_of_ble_eq_true rfl, Nat.le_of_ble_eq_true rfl⟩ ⟨Nat.le_refl _, Nat.le_refl _⟩ (rest := []) (Nat.le_of_ble_eq_true rfl) rfl dX2_placeBy_74 (fun H locs hM hS => ?_)
    refine W.eq (g2 := F0 m 77 ls [.long (l_fdiv (((mj σ 31 t) * 256) + ((((mj σ 28 t) * ((nI (mb σ 21 t)).toInt64)) - (mj σ 29 t)) * (m_speedBy σ t))) (mj σ 28 t))]) rfl ?_
    exact m_lret X hr hM hS (by rw [m_placeBy, if_neg c_6]) rfl (Nat.le_refl _) (Nat.le_refl _) dX2_placeBy_77
  · skip
    refine lv_aload_n hx hb dX2_placeBy_10 rfl (lv_at hl 0 rfl) ?_
    refine mf31 X hM dX2_placeBy_11 ?_
    refine lv_iload_n hx hb dX2_placeBy_14 rfl (lv_at hl 1 rfl) ?_
    refine m_ldj X hM 31 40 rfl rfl (by omega) (by decide) dX2_placeBy_15 ?_
    refine lv_ldc2 (v := 256) hx hb X.1.2.2.2.1 (X.1.2.2.2.2 _ q1511) dX2_placeBy_16 ?_
    refine lv_lmul hx hb dX2_placeBy_19 ?_
    refine lv_aload_n hx hb dX2_placeBy_20 rfl (lv_at hl 0 rfl) ?_
    refine mf28 X hM dX2_placeBy_21 ?_
    refine lv_iload_n hx hb dX2_placeBy_24 rfl (lv_at hl 1 rfl) ?_
    refine m_ldj X hM 28 40 rfl rfl (by omega) (by decide) dX2_placeBy_25 ?_
    refine m_callP X (met_J11_floorDiv l K ((mj σ 31 t) * 256) (mj σ 28 t) hw) gp_J11_floorDiv rfl q1526 q977 q52 q978 hM hS hl ⟨Nat.le_of_ble_eq_true rfl, Nat.le_of_ble_eq_true rfl⟩ ⟨Nat.le_refl _, Nat.le_refl _⟩ (rest := []) (Nat.le_of_ble_eq_true rfl) rfl dX2_placeBy_26 (fun H locs hM hS => ?_)
    refine W.eq (g2 := F0 m 29 ls [.long (l_fdiv ((mj σ 31 t) * 256) (mj σ 28 t))]) rfl ?_
    exact m_lret X hr hM hS (by rw [m_placeBy, if_pos c_6]) rfl (Nat.le_refl _) (Nat.le_refl _) dX2_placeBy_29
set_option maxHeartbeats 4000000 in
set_option maxRecDepth 100000 in
/-- fittedPlace -/
theorem met_X2_fittedPlace (l : Launch) (K : gK) (mo : Nat) (A : mA) (σ : mS) (t : Int32) (h15 : mn σ 15 ≤ 40) (hw : ∀ t, t < mn σ 15 → ¬ mj σ 28 t = 0) : mMet l K mo A yX2_fittedPlace cX2_fittedPlace 2 (some .long) 3 117 [.int (t)] σ (some (.long (if m_tr σ t = true then m_placeBy σ t.toNatClampNeg else 0))) (m_first σ (m_tr σ t)) := by
  intro G hR0
  refine gMet.of (by decide) (Nat.le_of_ble_eq_true rfl) (fun p e s m below meth c ls hx hb X hr hin hG hS hl => ?_)
  have X : gC K p s m _ meth c cX2_fittedPlace 2 "KalmanQuayModel" := X
  have hM := mPre hR0 hG
  have hl : lv_has ls 2 [(0, .ref (mo)), (1, .int (t))] := hl
  refine lv_aload_n hx hb dX2_fittedPlace_0 rfl (lv_at hl 0 rfl) ?_
  refine lv_iload_n hx hb dX2_fittedPlace_1 rfl (lv_at hl 1 rfl) ?_
  refine m_call X (met_X2_claimTrack l K mo A σ (t) (by omega)) gp_X2_claimTrack rfl q1567 q1569 qs30 q42 q1570 hM hS hl ⟨Nat.le_of_ble_eq_true rfl, Nat.le_of_ble_eq_true rfl⟩ ⟨Nat.le_refl _, Nat.le_refl _⟩ (rest := []) (Nat.le_of_ble_eq_true rfl) rfl dX2_fittedPlace_2 (fun H locs hM hS => ?_)
  refine W.eq (g2 := F0 m 5 ls [.int (gb (m_tr σ t))]) rfl ?_
  refine g_ifb_eq hx hb 16 dX2_fittedPlace_5 (by decide) (fun c_5 => ?_) (fun c_5 => ?_)
  · skip
    rw [c_5] at hM
    refine lv_lconst (v := 0) hx hb dX2_fittedPlace_16 rfl ?_
    exact m_lret X hr hM hS (by simp [c_5] <;> rfl) (by rw [c_5]) (Nat.le_refl _) (Nat.le_refl _) dX2_fittedPlace_17
  · skip
    rw [c_5] at hM
    obtain ⟨ht1, ht2⟩ := in_rng (n := mn σ 15) (by omega) c_5
    rw [ht1] at hl
    refine lv_aload_n hx hb dX2_fittedPlace_8 rfl (lv_at hl 0 rfl) ?_
    refine lv_iload_n hx hb dX2_fittedPlace_9 rfl (lv_at hl 1 rfl) ?_
    refine m_call X (met_X2_placeBy l K mo A (m_first σ true) (t.toNatClampNeg) (by omega) (hw _ ht2)) gp_X2_placeBy rfl q1645 q1647 qs34 q42 q1648 hM hS hl ⟨Nat.le_of_ble_eq_true rfl, Nat.le_of_ble_eq_true rfl⟩ ⟨Nat.le_refl _, Nat.le_refl _⟩ (rest := []) (Nat.le_of_ble_eq_true rfl) rfl dX2_fittedPlace_10 (fun H locs hM hS => ?_)
    refine W.eq (g2 := F0 m 13 ls [.long (m_placeBy (m_first σ true) t.toNatClampNeg)]) rfl ?_
    refine lv_goto (tgt := 17) hx hb dX2_fittedPlace_13 (by decide) ?_
    exact m_lret X hr hM hS (by simp [c_5] <;> rfl) (by rw [c_5]) (Nat.le_refl _) (Nat.le_refl _) dX2_fittedPlace_17
set_option maxHeartbeats 4000000 in
set_option maxRecDepth 100000 in
/-- fittedSpeed -/
theorem met_X2_fittedSpeed (l : Launch) (K : gK) (mo : Nat) (A : mA) (σ : mS) (t : Int32) (h15 : mn σ 15 ≤ 40)  : mMet l K mo A yX2_fittedSpeed cX2_fittedSpeed 2 (some .long) 3 112 [.int (t)] σ (some (.long (if m_tr σ t = true then m_speedBy σ t.toNatClampNeg else 0))) (m_first σ (m_tr σ t)) := by
  intro G hR0
  refine gMet.of (by decide) (Nat.le_of_ble_eq_true rfl) (fun p e s m below meth c ls hx hb X hr hin hG hS hl => ?_)
  have X : gC K p s m _ meth c cX2_fittedSpeed 2 "KalmanQuayModel" := X
  have hM := mPre hR0 hG
  have hl : lv_has ls 2 [(0, .ref (mo)), (1, .int (t))] := hl
  refine lv_aload_n hx hb dX2_fittedSpeed_0 rfl (lv_at hl 0 rfl) ?_
  refine lv_iload_n hx hb dX2_fittedSpeed_1 rfl (lv_at hl 1 rfl) ?_
  refine m_call X (met_X2_claimTrack l K mo A σ (t) (by omega)) gp_X2_claimTrack rfl q1567 q1569 qs30 q42 q1570 hM hS hl ⟨Nat.le_of_ble_eq_true rfl, Nat.le_of_ble_eq_true rfl⟩ ⟨Nat.le_refl _, Nat.le_refl _⟩ (rest := []) (Nat.le_of_ble_eq_true rfl) rfl dX2_fittedSpeed_2 (fun H locs hM hS => ?_)
  refine W.eq (g2 := F0 m 5 ls [.int (gb (m_tr σ t))]) rfl ?_
  refine g_ifb_eq hx hb 16 dX2_fittedSpeed_5 (by decide) (fun c_5 => ?_) (fun c_5 => ?_)
  · skip
    rw [c_5] at hM
    refine lv_lconst (v := 0) hx hb dX2_fittedSpeed_16 rfl ?_
    exact m_lret X hr hM hS (by simp [c_5] <;> rfl) (by rw [c_5]) (Nat.le_refl _) (Nat.le_refl _) dX2_fittedSpeed_17
  · skip
    rw [c_5] at hM
    obtain ⟨ht1, ht2⟩ := in_rng (n := mn σ 15) (by omega) c_5
    rw [ht1] at hl
    refine lv_aload_n hx hb dX2_fittedSpeed_8 rfl (lv_at hl 0 rfl) ?_
    refine lv_iload_n hx hb dX2_fittedSpeed_9 rfl (lv_at hl 1 rfl) ?_
    refine m_call X (met_X2_speedBy l K mo A (m_first σ true) (t.toNatClampNeg) (by omega)) gp_X2_speedBy rfl q1653 q1655 qs36 q42 q1656 hM hS hl ⟨Nat.le_of_ble_eq_true rfl, Nat.le_of_ble_eq_true rfl⟩ ⟨Nat.le_refl _, Nat.le_refl _⟩ (rest := []) (Nat.le_of_ble_eq_true rfl) rfl dX2_fittedSpeed_10 (fun H locs hM hS => ?_)
    refine W.eq (g2 := F0 m 13 ls [.long (m_speedBy (m_first σ true) t.toNatClampNeg)]) rfl ?_
    refine lv_goto (tgt := 17) hx hb dX2_fittedSpeed_13 (by decide) ?_
    exact m_lret X hr hM hS (by simp [c_5] <;> rfl) (by rw [c_5]) (Nat.le_refl _) (Nat.le_refl _) dX2_fittedSpeed_17
set_option maxHeartbeats 4000000 in
set_option maxRecDepth 100000 in
/-- apart -/
theorem met_X2_apart (l : Launch) (K : gK) (mo : Nat) (A : mA) (σ : mS) (t : Int32) (h15 : mn σ 15 ≤ 40) (hw : ∀ t, t < mn σ 15 → ¬ mj σ 28 t = 0) : mMet l K mo A yX2_apart cX2_apart 2 (some .long) 3 117 [.int (t)] σ (some (.long (if m_tr σ t = true then l_abs (mN σ t.toNatClampNeg 0 - m_placeBy σ t.toNatClampNeg) else 0))) (m_first σ (m_tr σ t)) := by
  intro G hR0
  refine gMet.of (by decide) (Nat.le_of_ble_eq_true rfl) (fun p e s m below meth c ls hx hb X hr hin hG hS hl => ?_)
  have X : gC K p s m _ meth c cX2_apart 2 "KalmanQuayModel" := X
  have hM := mPre hR0 hG
  have hl : lv_has ls 2 [(0, .ref (mo)), (1, .int (t))] := hl
  refine lv_aload_n hx hb dX2_apart_0 rfl (lv_at hl 0 rfl) ?_
  refine lv_iload_n hx hb dX2_apart_1 rfl (lv_at hl 1 rfl) ?_
  refine m_call X (met_X2_claimTrack l K mo A σ (t) (by omega)) gp_X2_claimTrack rfl q1567 q1569 qs30 q42 q1570 hM hS hl ⟨Nat.le_of_ble_eq_true rfl, Nat.le_of_ble_eq_true rfl⟩ ⟨Nat.le_refl _, Nat.le_refl _⟩ (rest := []) (Nat.le_of_ble_eq_true rfl) rfl dX2_apart_2 (fun H locs hM hS => ?_)
  refine W.eq (g2 := F0 m 5 ls [.int (gb (m_tr σ t))]) rfl ?_
  refine g_ifb_eq hx hb 28 dX2_apart_5 (by decide) (fun c_5 => ?_) (fun c_5 => ?_)
  · skip
    rw [c_5] at hM
    refine lv_lconst (v := 0) hx hb dX2_apart_28 rfl ?_
    exact m_lret X hr hM hS (by simp [c_5] <;> rfl) (by rw [c_5]) (Nat.le_refl _) (Nat.le_refl _) dX2_apart_29
  · skip
    rw [c_5] at hM
    obtain ⟨ht1, ht2⟩ := in_rng (n := mn σ 15) (by omega) c_5
    rw [ht1] at hl
    refine lv_aload_n hx hb dX2_apart_8 rfl (lv_at hl 0 rfl) ?_
    refine mf25 X hM dX2_apart_9 ?_
    refine lv_iload_n hx hb dX2_apart_12 rfl (lv_at hl 1 rfl) ?_
    refine m_aaN X hM rfl (by omega) dX2_apart_13 ?_
    refine lv_iconst (v := 0) hx hb dX2_apart_14 (by decide) ?_
    refine m_ldN X hM rfl (by omega) (by decide) dX2_apart_15 ?_
    refine g_topL (z := mN σ t.toNatClampNeg 0) (by simp [mN_m_first]) ?_
    refine lv_aload_n hx hb dX2_apart_16 rfl (lv_at hl 0 rfl) ?_
    refine lv_iload_n hx hb dX2_apart_17 rfl (lv_at hl 1 rfl) ?_
    refine m_call X (met_X2_placeBy l K mo A (m_first σ true) (t.toNatClampNeg) (by omega) (hw _ ht2)) gp_X2_placeBy rfl q1645 q1647 qs34 q42 q1648 hM hS hl ⟨Nat.le_of_ble_eq_true rfl, Nat.le_of_ble_eq_true rfl⟩ ⟨Nat.le_refl _, Nat.le_refl _⟩ (rest := [.long (mN σ t.toNatClampNeg 0)]) (Nat.le_of_ble_eq_true rfl) rfl dX2_apart_18 (fun H locs hM hS => ?_)
    refine W.eq (g2 := F0 m 21 ls [.long (m_placeBy (m_first σ true) t.toNatClampNeg), .long (mN σ t.toNatClampNeg 0)]) rfl ?_
    refine lv_lsub hx hb dX2_apart_21 ?_
    refine va_mabs_long hx hb (X.1.2.2.1.trans hl.1.symm) X.1.2.2.2.1 (X.1.2.2.2.2 _ q1640) (X.1.2.2.2.2 _ q1210) (X.1.2.2.2.2 _ q52) (X.1.2.2.2.2 _ q1211) (Nat.le_of_ble_eq_true rfl) (Nat.le_of_ble_eq_true rfl) (Nat.le_refl _) (Nat.le_refl _) dX2_apart_22 ?_
    refine W.eq (g2 := F0 m 25 ls [.long (l_abs ((mN σ t.toNatClampNeg 0) - (m_placeBy (m_first σ true) t.toNatClampNeg)))]) rfl ?_
    refine lv_goto (tgt := 29) hx hb dX2_apart_25 (by decide) ?_
    exact m_lret X hr hM hS (by simp [c_5] <;> rfl) (by rw [c_5]) (Nat.le_refl _) (Nat.le_refl _) dX2_apart_29
