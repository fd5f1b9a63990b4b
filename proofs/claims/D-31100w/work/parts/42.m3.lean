/-! the reference: third lot -/
set_option maxRecDepth 100000
theorem gp_X2_claimBeat : gPar yX2_claimBeat 2 := ⟨⟨by decide, by decide⟩, by decide +kernel⟩
theorem gp_X2_claimTrack : gPar yX2_claimTrack 1 := ⟨⟨by decide, by decide⟩, by decide +kernel⟩
theorem gp_X2_under : gPar yX2_under 1 := ⟨⟨by decide, by decide⟩, by decide +kernel⟩
set_option maxHeartbeats 4000000 in
set_option maxRecDepth 100000 in
/-- claimTrack -/
theorem met_X2_claimTrack (l : Launch) (K : gK) (mo : Nat) (A : mA) (σ : mS) (t : Int32) (h15 : mn σ 15 ≤ 40) : mMet l K mo A yX2_claimTrack cX2_claimTrack 2 (some .boolean) 2 75 [.int (t)] σ (some (.int (gb (m_tr σ t)))) (m_first σ (m_tr σ t)) := by
  intro G hR0
  refine gMet.of (by decide) (Nat.le_of_ble_eq_true rfl) (fun p e s m below meth c ls hx hb X hr hin hG hS hl => ?_)
  have X : gC K p s m _ meth c cX2_claimTrack 2 "KalmanQuayModel" := X
  have hM := mPre hR0 hG
  have hl : lv_has ls 2 [(0, .ref (mo)), (1, .int (t))] := hl
  refine lv_aload_n hx hb dX2_claimTrack_0 rfl (lv_at hl 0 rfl) ?_
  refine lv_iload_n hx hb dX2_claimTrack_1 rfl (lv_at hl 1 rfl) ?_
  refine lv_iconst (v := 0) hx hb dX2_claimTrack_2 (by decide) ?_
  refine lv_aload_n hx hb dX2_claimTrack_3 rfl (lv_at hl 0 rfl) ?_
  refine mf15 X hM dX2_claimTrack_4 ?_
  refine lv_iconst (v := 1) hx hb dX2_claimTrack_7 (by decide) ?_
  refine lv_isub hx hb dX2_claimTrack_8 ?_
  refine m_callP X (met_X2_in l K (t) (0) ((nI (mn σ 15)) - 1) ) gp_X2_in rfl q1432 q1433 q42 q1434 hM hS hl ⟨Nat.le_of_ble_eq_true rfl, Nat.le_of_ble_eq_true rfl⟩ ⟨Nat.le_refl _, Nat.le_refl _⟩ (rest := [.ref (mo)]) (Nat.le_of_ble_eq_true rfl) rfl dX2_claimTrack_9 (fun H locs hM hS => ?_)
  refine W.eq (g2 := F0 m 12 ls [.int (gb (m_in t 0 ((nI (mn σ 15)) - 1))), .ref (mo)]) rfl ?_
  refine m_call X (met_X2_claimFirst l K mo A σ (m_in t 0 ((nI (mn σ 15)) - 1)) ) gp_X2_claimFirst rfl q1435 q1437 qs14 q42 q1438 hM hS hl ⟨Nat.le_of_ble_eq_true rfl, Nat.le_of_ble_eq_true rfl⟩ ⟨Nat.le_refl _, Nat.le_refl _⟩ (rest := []) (Nat.le_of_ble_eq_true rfl) rfl dX2_claimTrack_12 (fun H locs hM hS => ?_)
  refine W.eq (g2 := F0 m 15 ls [.int (gb (m_in t 0 ((nI (mn σ 15)) - 1)))]) rfl ?_
  exact m_zret X hr hM hS (gb_nar _) rfl rfl (Nat.le_refl _) (Nat.le_refl _) dX2_claimTrack_15
set_option maxHeartbeats 4000000 in
set_option maxRecDepth 100000 in
/-- trackOf -/
theorem met_X2_trackOf (l : Launch) (K : gK) (mo : Nat) (A : mA) (σ : mS) (x : Int32) (h11 : mn σ 11 ≤ 8) : mMet l K mo A yX2_trackOf cX2_trackOf 2 (some .int) 2 75 [.int (x)] σ (some (.int (if m_in x 0 (nI (mn σ 11) - 1) = true then ma σ 12 x.toNatClampNeg else 0))) (m_first σ (m_in x 0 (nI (mn σ 11) - 1))) := by
  intro G hR0
  refine gMet.of (by decide) (Nat.le_of_ble_eq_true rfl) (fun p e s m below meth c ls hx hb X hr hin hG hS hl => ?_)
  have X : gC K p s m _ meth c cX2_trackOf 2 "KalmanQuayModel" := X
  have hM := mPre hR0 hG
  have hl : lv_has ls 2 [(0, .ref (mo)), (1, .int (x))] := hl
  refine lv_aload_n hx hb dX2_trackOf_0 rfl (lv_at hl 0 rfl) ?_
  refine lv_iload_n hx hb dX2_trackOf_1 rfl (lv_at hl 1 rfl) ?_
  refine lv_iconst (v := 0) hx hb dX2_trackOf_2 (by decide) ?_
  refine lv_aload_n hx hb dX2_trackOf_3 rfl (lv_at hl 0 rfl) ?_
  refine mf11 X hM dX2_trackOf_4 ?_
  refine lv_iconst (v := 1) hx hb dX2_trackOf_7 (by decide) ?_
  refine lv_isub hx hb dX2_trackOf_8 ?_
  refine m_callP X (met_X2_in l K (x) (0) ((nI (mn σ 11)) - 1) ) gp_X2_in rfl q1432 q1433 q42 q1434 hM hS hl ⟨Nat.le_of_ble_eq_true rfl, Nat.le_of_ble_eq_true rfl⟩ ⟨Nat.le_refl _, Nat.le_refl _⟩ (rest := [.ref (mo)]) (Nat.le_of_ble_eq_true rfl) rfl dX2_trackOf_9 (fun H locs hM hS => ?_)
  refine W.eq (g2 := F0 m 12 ls [.int (gb (m_in x 0 ((nI (mn σ 11)) - 1))), .ref (mo)]) rfl ?_
  refine m_call X (met_X2_claimFirst l K mo A σ (m_in x 0 ((nI (mn σ 11)) - 1)) ) gp_X2_claimFirst rfl q1435 q1437 qs14 q42 q1438 hM hS hl ⟨Nat.le_of_ble_eq_true rfl, Nat.le_of_ble_eq_true rfl⟩ ⟨Nat.le_refl _, Nat.le_refl _⟩ (rest := []) (Nat.le_of_ble_eq_true rfl) rfl dX2_trackOf_12 (fun H locs hM hS => ?_)
  refine W.eq (g2 := F0 m 15 ls [.int (gb (m_in x 0 ((nI (mn σ 11)) - 1)))]) rfl ?_
  refine g_ifb_eq hx hb 27 dX2_trackOf_15 (by decide) (fun c_15 => ?_) (fun c_15 => ?_)
  · skip
    rw [c_15] at hM
    refine lv_iconst (v := 0) hx hb dX2_trackOf_27 (by decide) ?_
    exact m_iret X hr hM hS (by simp [c_15]) (by rw [c_15]) (Nat.le_refl _) (Nat.le_refl _) dX2_trackOf_28
  · skip
    rw [c_15] at hM
    obtain ⟨ht1, ht2⟩ := in_rng (n := mn σ 11) (by omega) c_15
    rw [ht1] at hl
    refine lv_aload_n hx hb dX2_trackOf_18 rfl (lv_at hl 0 rfl) ?_
    refine mf12 X hM dX2_trackOf_19 ?_
    refine lv_iload_n hx hb dX2_trackOf_22 rfl (lv_at hl 1 rfl) ?_
    refine m_lda X hM 12 8 rfl rfl (by omega) (by decide) dX2_trackOf_23 ?_
    refine g_topE (z := ma σ 12 x.toNatClampNeg) (by simp [ma_m_first]) ?_
    refine lv_goto (tgt := 28) hx hb dX2_trackOf_24 (by decide) ?_
    exact m_iret X hr hM hS (by simp [c_15]) (by rw [c_15]) (Nat.le_refl _) (Nat.le_refl _) dX2_trackOf_28
set_option maxHeartbeats 4000000 in
set_option maxRecDepth 100000 in
/-- hitBeats -/
theorem met_X2_hitBeats (l : Launch) (K : gK) (mo : Nat) (A : mA) (σ : mS) (t : Int32) (h15 : mn σ 15 ≤ 40) : mMet l K mo A yX2_hitBeats cX2_hitBeats 2 (some .int) 3 112 [.int (t)] σ (some (.int (if m_tr σ t = true then nI (mb σ 22 t.toNatClampNeg) else 0))) (m_first σ (m_tr σ t)) := by
  intro G hR0
  refine gMet.of (by decide) (Nat.le_of_ble_eq_true rfl) (fun p e s m below meth c ls hx hb X hr hin hG hS hl => ?_)
  have X : gC K p s m _ meth c cX2_hitBeats 2 "KalmanQuayModel" := X
  have hM := mPre hR0 hG
  have hl : lv_has ls 2 [(0, .ref (mo)), (1, .int (t))] := hl
  refine lv_aload_n hx hb dX2_hitBeats_0 rfl (lv_at hl 0 rfl) ?_
  refine lv_iload_n hx hb dX2_hitBeats_1 rfl (lv_at hl 1 rfl) ?_
  refine m_call X (met_X2_claimTrack l K mo A σ (t) (by omega)) gp_X2_claimTrack rfl q1567 q1569 qs30 q42 q1570 hM hS hl ⟨Nat.le_of_ble_eq_true rfl, Nat.le_of_ble_eq_true rfl⟩ ⟨Nat.le_refl _, Nat.le_refl _⟩ (rest := []) (Nat.le_of_ble_eq_true rfl) rfl dX2_hitBeats_2 (fun H locs hM hS => ?_)
  refine W.eq (g2 := F0 m 5 ls [.int (gb (m_tr σ t))]) rfl ?_
  refine g_ifb_eq hx hb 17 dX2_hitBeats_5 (by decide) (fun c_5 => ?_) (fun c_5 => ?_)
  · skip
    rw [c_5] at hM
    refine lv_iconst (v := 0) hx hb dX2_hitBeats_17 (by decide) ?_
    exact m_iret X hr hM hS (by simp [c_5]) (by rw [c_5]) (Nat.le_refl _) (Nat.le_refl _) dX2_hitBeats_18
  · skip
    rw [c_5] at hM
    obtain ⟨ht1, ht2⟩ := in_rng (n := mn σ 15) (by omega) c_5
    rw [ht1] at hl
    refine lv_aload_n hx hb dX2_hitBeats_8 rfl (lv_at hl 0 rfl) ?_
    refine mf22 X hM dX2_hitBeats_9 ?_
    refine lv_iload_n hx hb dX2_hitBeats_12 rfl (lv_at hl 1 rfl) ?_
    refine m_ldb X hM 22 40 rfl rfl (by omega) (by decide) dX2_hitBeats_13 ?_
    refine g_topE (z := nI (mb σ 22 t.toNatClampNeg)) (by simp [mb_m_first]) ?_
    refine lv_goto (tgt := 18) hx hb dX2_hitBeats_14 (by decide) ?_
    exact m_iret X hr hM hS (by simp [c_5]) (by rw [c_5]) (Nat.le_refl _) (Nat.le_refl _) dX2_hitBeats_18
set_option maxHeartbeats 4000000 in
set_option maxRecDepth 100000 in
/-- misses -/
theorem met_X2_misses (l : Launch) (K : gK) (mo : Nat) (A : mA) (σ : mS) (t : Int32) (h15 : mn σ 15 ≤ 40) : mMet l K mo A yX2_misses cX2_misses 2 (some .int) 3 112 [.int (t)] σ (some (.int (if m_tr σ t = true then nI (mb σ 23 t.toNatClampNeg) else 0))) (m_first σ (m_tr σ t)) := by
  intro G hR0
  refine gMet.of (by decide) (Nat.le_of_ble_eq_true rfl) (fun p e s m below meth c ls hx hb X hr hin hG hS hl => ?_)
  have X : gC K p s m _ meth c cX2_misses 2 "KalmanQuayModel" := X
  have hM := mPre hR0 hG
  have hl : lv_has ls 2 [(0, .ref (mo)), (1, .int (t))] := hl
  refine lv_aload_n hx hb dX2_misses_0 rfl (lv_at hl 0 rfl) ?_
  refine lv_iload_n hx hb dX2_misses_1 rfl (lv_at hl 1 rfl) ?_
  refine m_call X (met_X2_claimTrack l K mo A σ (t) (by omega)) gp_X2_claimTrack rfl q1567 q1569 qs30 q42 q1570 hM hS hl ⟨Nat.le_of_ble_eq_true rfl, Nat.le_of_ble_eq_true rfl⟩ ⟨Nat.le_refl _, Nat.le_refl _⟩ (rest := []) (Nat.le_of_ble_eq_true rfl) rfl dX2_misses_2 (fun H locs hM hS => ?_)
  refine W.eq (g2 := F0 m 5 ls [.int (gb (m_tr σ t))]) rfl ?_
  refine g_ifb_eq hx hb 17 dX2_misses_5 (by decide) (fun c_5 => ?_) (fun c_5 => ?_)
  · skip
    rw [c_5] at hM
    refine lv_iconst (v := 0) hx hb dX2_misses_17 (by decide) ?_
    exact m_iret X hr hM hS (by simp [c_5]) (by rw [c_5]) (Nat.le_refl _) (Nat.le_refl _) dX2_misses_18
  · skip
    rw [c_5] at hM
    obtain ⟨ht1, ht2⟩ := in_rng (n := mn σ 15) (by omega) c_5
    rw [ht1] at hl
    refine lv_aload_n hx hb dX2_misses_8 rfl (lv_at hl 0 rfl) ?_
    refine mf23 X hM dX2_misses_9 ?_
    refine lv_iload_n hx hb dX2_misses_12 rfl (lv_at hl 1 rfl) ?_
    refine m_ldb X hM 23 40 rfl rfl (by omega) (by decide) dX2_misses_13 ?_
    refine g_topE (z := nI (mb σ 23 t.toNatClampNeg)) (by simp [mb_m_first]) ?_
    refine lv_goto (tgt := 18) hx hb dX2_misses_14 (by decide) ?_
    exact m_iret X hr hM hS (by simp [c_5]) (by rw [c_5]) (Nat.le_refl _) (Nat.le_refl _) dX2_misses_18
set_option maxHeartbeats 4000000 in
set_option maxRecDepth 100000 in
/-- hitsOf -/
theorem met_X2_hitsOf (l : Launch) (K : gK) (mo : Nat) (A : mA) (σ : mS) (t : Int32) (h15 : mn σ 15 ≤ 40) : mMet l K mo A yX2_hitsOf cX2_hitsOf 2 (some .int) 3 112 [.int (t)] σ (some (.int (if m_tr σ t = true then nI (mb σ 24 t.toNatClampNeg) else 0))) (m_first σ (m_tr σ t)) := by
  intro G hR0
  refine gMet.of (by decide) (Nat.le_of_ble_eq_true rfl) (fun p e s m below meth c ls hx hb X hr hin hG hS hl => ?_)
  have X : gC K p s m _ meth c cX2_hitsOf 2 "KalmanQuayModel" := X
  have hM := mPre hR0 hG
  have hl : lv_has ls 2 [(0, .ref (mo)), (1, .int (t))] := hl
  refine lv_aload_n hx hb dX2_hitsOf_0 rfl (lv_at hl 0 rfl) ?_
  refine lv_iload_n hx hb dX2_hitsOf_1 rfl (lv_at hl 1 rfl) ?_
  refine m_call X (met_X2_claimTrack l K mo A σ (t) (by omega)) gp_X2_claimTrack rfl q1567 q1569 qs30 q42 q1570 hM hS hl ⟨Nat.le_of_ble_eq_true rfl, Nat.le_of_ble_eq_true rfl⟩ ⟨Nat.le_refl _, Nat.le_refl _⟩ (rest := []) (Nat.le_of_ble_eq_true rfl) rfl dX2_hitsOf_2 (fun H locs hM hS => ?_)
  refine W.eq (g2 := F0 m 5 ls [.int (gb (m_tr σ t))]) rfl ?_
  refine g_ifb_eq hx hb 17 dX2_hitsOf_5 (by decide) (fun c_5 => ?_) (fun c_5 => ?_)
  · skip
    rw [c_5] at hM
    refine lv_iconst (v := 0) hx hb dX2_hitsOf_17 (by decide) ?_
    exact m_iret X hr hM hS (by simp [c_5]) (by rw [c_5]) (Nat.le_refl _) (Nat.le_refl _) dX2_hitsOf_18
  · skip
    rw [c_5] at hM
    obtain ⟨ht1, ht2⟩ := in_rng (n := mn σ 15) (by omega) c_5
    rw [ht1] at hl
    refine lv_aload_n hx hb dX2_hitsOf_8 rfl (lv_at hl 0 rfl) ?_
    refine mf24 X hM dX2_hitsOf_9 ?_
    refine lv_iload_n hx hb dX2_hitsOf_12 rfl (lv_at hl 1 rfl) ?_
    refine m_ldb X hM 24 40 rfl rfl (by omega) (by decide) dX2_hitsOf_13 ?_
    refine g_topE (z := nI (mb σ 24 t.toNatClampNeg)) (by simp [mb_m_first]) ?_
    refine lv_goto (tgt := 18) hx hb dX2_hitsOf_14 (by decide) ?_
    exact m_iret X hr hM hS (by simp [c_5]) (by rw [c_5]) (Nat.le_refl _) (Nat.le_refl _) dX2_hitsOf_18
set_option maxHeartbeats 4000000 in
set_option maxRecDepth 100000 in
/-- beginOf -/
theorem met_X2_beginOf (l : Launch) (K : gK) (mo : Nat) (A : mA) (σ : mS) (t : Int32) (h15 : mn σ 15 ≤ 40) : mMet l K mo A yX2_beginOf cX2_beginOf 2 (some .int) 3 112 [.int (t)] σ (some (.int (if m_tr σ t = true then nI (mb σ 20 t.toNatClampNeg) else 0))) (m_first σ (m_tr σ t)) := by
  intro G hR0
  refine gMet.of (by decide) (Nat.le_of_ble_eq_true rfl) (fun p e s m below meth c ls hx hb X hr hin hG hS hl => ?_)
  have X : gC K p s m _ meth c cX2_beginOf 2 "KalmanQuayModel" := X
  have hM := mPre hR0 hG
  have hl : lv_has ls 2 [(0, .ref (mo)), (1, .int (t))] := hl
  refine lv_aload_n hx hb dX2_beginOf_0 rfl (lv_at hl 0 rfl) ?_
  refine lv_iload_n hx hb dX2_beginOf_1 rfl (lv_at hl 1 rfl) ?_
  refine m_call X (met_X2_claimTrack l K mo A σ (t) (by omega)) gp_X2_claimTrack rfl q1567 q1569 qs30 q42 q1570 hM hS hl ⟨Nat.le_of_ble_eq_true rfl, Nat.le_of_ble_eq_true rfl⟩ ⟨Nat.le_refl _, Nat.le_refl _⟩ (rest := []) (Nat.le_of_ble_eq_true rfl) rfl dX2_beginOf_2 (fun H locs hM hS => ?_)
  refine W.eq (g2 := F0 m 5 ls [.int (gb (m_tr σ t))]) rfl ?_
  refine g_ifb_eq hx hb 17 dX2_beginOf_5 (by decide) (fun c_5 => ?_) (fun c_5 => ?_)
  · skip
    rw [c_5] at hM
    refine lv_iconst (v := 0) hx hb dX2_beginOf_17 (by decide) ?_
    exact m_iret X hr hM hS (by simp [c_5]) (by rw [c_5]) (Nat.le_refl _) (Nat.le_refl _) dX2_beginOf_18
  · skip
    rw [c_5] at hM
    obtain ⟨ht1, ht2⟩ := in_rng (n := mn σ 15) (by omega) c_5
    rw [ht1] at hl
    refine lv_aload_n hx hb dX2_beginOf_8 rfl (lv_at hl 0 rfl) ?_
    refine mf20 X hM dX2_beginOf_9 ?_
    refine lv_iload_n hx hb dX2_beginOf_12 rfl (lv_at hl 1 rfl) ?_
    refine m_ldb X hM 20 40 rfl rfl (by omega) (by decide) dX2_beginOf_13 ?_
    refine g_topE (z := nI (mb σ 20 t.toNatClampNeg)) (by simp [mb_m_first]) ?_
    refine lv_goto (tgt := 18) hx hb dX2_beginOf_14 (by decide) ?_
    exact m_iret X hr hM hS (by simp [c_5]) (by rw [c_5]) (Nat.le_refl _) (Nat.le_refl _) dX2_beginOf_18
set_option maxHeartbeats 4000000 in
set_option maxRecDepth 100000 in
/-- endOf -/
theorem met_X2_endOf (l : Launch) (K : gK) (mo : Nat) (A : mA) (σ : mS) (t : Int32) (h15 : mn σ 15 ≤ 40) : mMet l K mo A yX2_endOf cX2_endOf 2 (some .int) 3 112 [.int (t)] σ (some (.int (if m_tr σ t = true then nI (mb σ 21 t.toNatClampNeg) else 0))) (m_first σ (m_tr σ t)) := by
  intro G hR0
  refine gMet.of (by decide) (Nat.le_of_ble_eq_true rfl) (fun p e s m below meth c ls hx hb X hr hin hG hS hl => ?_)
  have X : gC K p s m _ meth c cX2_endOf 2 "KalmanQuayModel" := X
  have hM := mPre hR0 hG
  have hl : lv_has ls 2 [(0, .ref (mo)), (1, .int (t))] := hl
  refine lv_aload_n hx hb dX2_endOf_0 rfl (lv_at hl 0 rfl) ?_
  refine lv_iload_n hx hb dX2_endOf_1 rfl (lv_at hl 1 rfl) ?_
  refine m_call X (met_X2_claimTrack l K mo A σ (t) (by omega)) gp_X2_claimTrack rfl q1567 q1569 qs30 q42 q1570 hM hS hl ⟨Nat.le_of_ble_eq_true rfl, Nat.le_of_ble_eq_true rfl⟩ ⟨Nat.le_refl _, Nat.le_refl _⟩ (rest := []) (Nat.le_of_ble_eq_true rfl) rfl dX2_endOf_2 (fun H locs hM hS => ?_)
  refine W.eq (g2 := F0 m 5 ls [.int (gb (m_tr σ t))]) rfl ?_
  refine g_ifb_eq hx hb 17 dX2_endOf_5 (by decide) (fun c_5 => ?_) (fun c_5 => ?_)
  · skip
    rw [c_5] at hM
    refine lv_iconst (v := 0) hx hb dX2_endOf_17 (by decide) ?_
    exact m_iret X hr hM hS (by simp [c_5]) (by rw [c_5]) (Nat.le_refl _) (Nat.le_refl _) dX2_endOf_18
  · skip
    rw [c_5] at hM
    obtain ⟨ht1, ht2⟩ := in_rng (n := mn σ 15) (by omega) c_5
    rw [ht1] at hl
    refine lv_aload_n hx hb dX2_endOf_8 rfl (lv_at hl 0 rfl) ?_
    refine mf21 X hM dX2_endOf_9 ?_
    refine lv_iload_n hx hb dX2_endOf_12 rfl (lv_at hl 1 rfl) ?_
    refine m_ldb X hM 21 40 rfl rfl (by omega) (by decide) dX2_endOf_13 ?_
    refine g_topE (z := nI (mb σ 21 t.toNatClampNeg)) (by simp [mb_m_first]) ?_
    refine lv_goto (tgt := 18) hx hb dX2_endOf_14 (by decide) ?_
    exact m_iret X hr hM hS (by simp [c_5]) (by rw [c_5]) (Nat.le_refl _) (Nat.le_refl _) dX2_endOf_18
set_option maxHeartbeats 4000000 in
set_option maxRecDepth 100000 in
/-- placeOf -/
theorem met_X2_placeOf (l : Launch) (K : gK) (mo : Nat) (A : mA) (σ : mS) (t : Int32) (h15 : mn σ 15 ≤ 40) : mMet l K mo A yX2_placeOf cX2_placeOf 2 (some .int) 3 112 [.int (t)] σ (some (.int (if m_tr σ t = true then (mN σ t.toNatClampNeg 0).toInt32 else 0))) (m_first σ (m_tr σ t)) := by
  intro G hR0
  refine gMet.of (by decide) (Nat.le_of_ble_eq_true rfl) (fun p e s m below meth c ls hx hb X hr hin hG hS hl => ?_)
  have X : gC K p s m _ meth c cX2_placeOf 2 "KalmanQuayModel" := X
  have hM := mPre hR0 hG
  have hl : lv_has ls 2 [(0, .ref (mo)), (1, .int (t))] := hl
  refine lv_aload_n hx hb dX2_placeOf_0 rfl (lv_at hl 0 rfl) ?_
  refine lv_iload_n hx hb dX2_placeOf_1 rfl (lv_at hl 1 rfl) ?_
  refine m_call X (met_X2_claimTrack l K mo A σ (t) (by omega)) gp_X2_claimTrack rfl q1567 q1569 qs30 q42 q1570 hM hS hl ⟨Nat.le_of_ble_eq_true rfl, Nat.le_of_ble_eq_true rfl⟩ ⟨Nat.le_refl _, Nat.le_refl _⟩ (rest := []) (Nat.le_of_ble_eq_true rfl) rfl dX2_placeOf_2 (fun H locs hM hS => ?_)
  refine W.eq (g2 := F0 m 5 ls [.int (gb (m_tr σ t))]) rfl ?_
  refine g_ifb_eq hx hb 20 dX2_placeOf_5 (by decide) (fun c_5 => ?_) (fun c_5 => ?_)
  · skip
    rw [c_5] at hM
    refine lv_iconst (v := 0) hx hb dX2_placeOf_20 (by decide) ?_
    exact m_iret X hr hM hS (by simp [c_5]) (by rw [c_5]) (Nat.le_refl _) (Nat.le_refl _) dX2_placeOf_21
  · skip
    rw [c_5] at hM
    obtain ⟨ht1, ht2⟩ := in_rng (n := mn σ 15) (by omega) c_5
    rw [ht1] at hl
    refine lv_aload_n hx hb dX2_placeOf_8 rfl (lv_at hl 0 rfl) ?_
    refine mf25 X hM dX2_placeOf_9 ?_
    refine lv_iload_n hx hb dX2_placeOf_12 rfl (lv_at hl 1 rfl) ?_
    refine m_aaN X hM rfl (by omega) dX2_placeOf_13 ?_
    refine lv_iconst (v := 0) hx hb dX2_placeOf_14 (by decide) ?_
    refine m_ldN X hM rfl (by omega) (by decide) dX2_placeOf_15 ?_
    refine g_topL (z := mN σ t.toNatClampNeg 0) (by simp [mN_m_first]) ?_
    refine lv_l2i hx hb dX2_placeOf_16 rfl ?_
    refine lv_goto (tgt := 21) hx hb dX2_placeOf_17 (by decide) ?_
    exact m_iret X hr hM hS (by simp [c_5]) (by rw [c_5]) (Nat.le_refl _) (Nat.le_refl _) dX2_placeOf_21
set_option maxHeartbeats 4000000 in
set_option maxRecDepth 100000 in
/-- speedOf -/
theorem met_X2_speedOf (l : Launch) (K : gK) (mo : Nat) (A : mA) (σ : mS) (t : Int32) (h15 : mn σ 15 ≤ 40) : mMet l K mo A yX2_speedOf cX2_speedOf 2 (some .int) 3 112 [.int (t)] σ (some (.int (if m_tr σ t = true then (mN σ t.toNatClampNeg 1).toInt32 else 0))) (m_first σ (m_tr σ t)) := by
  intro G hR0
  refine gMet.of (by decide) (Nat.le_of_ble_eq_true rfl) (fun p e s m below meth c ls hx hb X hr hin hG hS hl => ?_)
  have X : gC K p s m _ meth c cX2_speedOf 2 "KalmanQuayModel" := X
  have hM := mPre hR0 hG
  have hl : lv_has ls 2 [(0, .ref (mo)), (1, .int (t))] := hl
  refine lv_aload_n hx hb dX2_speedOf_0 rfl (lv_at hl 0 rfl) ?_
  refine lv_iload_n hx hb dX2_speedOf_1 rfl (lv_at hl 1 rfl) ?_
  refine m_call X (met_X2_claimTrack l K mo A σ (t) (by omega)) gp_X2_claimTrack rfl q1567 q1569 qs30 q42 q1570 hM hS hl ⟨Nat.le_of_ble_eq_true rfl, Nat.le_of_ble_eq_true rfl⟩ ⟨Nat.le_refl _, Nat.le_refl _⟩ (rest := []) (Nat.le_of_ble_eq_true rfl) rfl dX2_speedOf_2 (fun H locs hM hS => ?_)
  refine W.eq (g2 := F0 m 5 ls [.int (gb (m_tr σ t))]) rfl ?_
  refine g_ifb_eq hx hb 20 dX2_speedOf_5 (by decide) (fun c_5 => ?_) (fun c_5 => ?_)
  · skip
    rw [c_5] at hM
    refine lv_iconst (v := 0) hx hb dX2_speedOf_20 (by decide) ?_
    exact m_iret X hr hM hS (by simp [c_5]) (by rw [c_5]) (Nat.le_refl _) (Nat.le_refl _) dX2_speedOf_21
  · skip
    rw [c_5] at hM
    obtain ⟨ht1, ht2⟩ := in_rng (n := mn σ 15) (by omega) c_5
    rw [ht1] at hl
    refine lv_aload_n hx hb dX2_speedOf_8 rfl (lv_at hl 0 rfl) ?_
    refine mf25 X hM dX2_speedOf_9 ?_
    refine lv_iload_n hx hb dX2_speedOf_12 rfl (lv_at hl 1 rfl) ?_
    refine m_aaN X hM rfl (by omega) dX2_speedOf_13 ?_
    refine lv_iconst (v := 1) hx hb dX2_speedOf_14 (by decide) ?_
    refine m_ldN X hM rfl (by omega) (by decide) dX2_speedOf_15 ?_
    refine g_topL (z := mN σ t.toNatClampNeg 1) (by simp [mN_m_first]) ?_
    refine lv_l2i hx hb dX2_speedOf_16 rfl ?_
    refine lv_goto (tgt := 21) hx hb dX2_speedOf_17 (by decide) ?_
    exact m_iret X hr hM hS (by simp [c_5]) (by rw [c_5]) (Nat.le_refl _) (Nat.le_refl _) dX2_speedOf_21
set_option maxHeartbeats 4000000 in
set_option maxRecDepth 100000 in
/-- isAlive -/
theorem met_X2_isAlive (l : Launch) (K : gK) (mo : Nat) (A : mA) (σ : mS) (t : Int32) (h15 : mn σ 15 ≤ 40) : mMet l K mo A yX2_isAlive cX2_isAlive 2 (some .boolean) 3 112 [.int (t)] σ (some (.int (gb (m_tr σ t && mc σ 16 t.toNatClampNeg)))) (m_first σ (m_tr σ t)) := by
  intro G hR0
  refine gMet.of (by decide) (Nat.le_of_ble_eq_true rfl) (fun p e s m below meth c ls hx hb X hr hin hG hS hl => ?_)
  have X : gC K p s m _ meth c cX2_isAlive 2 "KalmanQuayModel" := X
  have hM := mPre hR0 hG
  have hl : lv_has ls 2 [(0, .ref (mo)), (1, .int (t))] := hl
  refine lv_aload_n hx hb dX2_isAlive_0 rfl (lv_at hl 0 rfl) ?_
  refine lv_iload_n hx hb dX2_isAlive_1 rfl (lv_at hl 1 rfl) ?_
  refine m_call X (met_X2_claimTrack l K mo A σ (t) (by omega)) gp_X2_claimTrack rfl q1567 q1569 qs30 q42 q1570 hM hS hl ⟨Nat.le_of_ble_eq_true rfl, Nat.le_of_ble_eq_true rfl⟩ ⟨Nat.le_refl _, Nat.le_refl _⟩ (rest := []) (Nat.le_of_ble_eq_true rfl) rfl dX2_isAlive_2 (fun H locs hM hS => ?_)
  refine W.eq (g2 := F0 m 5 ls [.int (gb (m_tr σ t))]) rfl ?_
  refine g_ifb_eq hx hb 21 dX2_isAlive_5 (by decide) (fun c_5 => ?_) (fun c_5 => ?_)
  · skip
    rw [c_5] at hM
    refine lv_iconst (v := 0) hx hb dX2_isAlive_21 (by decide) ?_
    exact m_zret X hr hM hS rfl (by simp [c_5, gb]) (by rw [c_5]) (Nat.le_refl _) (Nat.le_refl _) dX2_isAlive_22
  · skip
    rw [c_5] at hM
    obtain ⟨ht1, ht2⟩ := in_rng (n := mn σ 15) (by omega) c_5
    rw [ht1] at hl
    refine lv_aload_n hx hb dX2_isAlive_8 rfl (lv_at hl 0 rfl) ?_
    refine mf16 X hM dX2_isAlive_9 ?_
    refine lv_iload_n hx hb dX2_isAlive_12 rfl (lv_at hl 1 rfl) ?_
    refine m_ldc X hM 16 40 rfl rfl (by omega) (by decide) dX2_isAlive_13 ?_
    refine g_topE (z := gb (mc σ 16 t.toNatClampNeg)) (by simp [mc_m_first]) ?_
    refine g_ifb_eq hx hb 21 dX2_isAlive_14 (by decide) (fun c_14 => ?_) (fun c_14 => ?_)
    · skip
      refine lv_iconst (v := 0) hx hb dX2_isAlive_21 (by decide) ?_
      exact m_zret X hr hM hS rfl (by simp [c_5, c_14, gb]) (by rw [c_5]) (Nat.le_refl _) (Nat.le_refl _) dX2_isAlive_22
    · skip
      refine lv_iconst (v := 1) hx hb dX2_isAlive_17 (by decide) ?_
      refine lv_goto (tgt := 22) hx hb dX2_isAlive_18 (by decide) ?_
      exact m_zret X hr hM hS rfl (by simp [c_5, c_14, gb]) (by rw [c_5]) (Nat.le_refl _) (Nat.le_refl _) dX2_isAlive_22
set_option maxHeartbeats 4000000 in
set_option maxRecDepth 100000 in
/-- isProven -/
theorem met_X2_isProven (l : Launch) (K : gK) (mo : Nat) (A : mA) (σ : mS) (t : Int32) (h15 : mn σ 15 ≤ 40) : mMet l K mo A yX2_isProven cX2_isProven 2 (some .boolean) 3 112 [.int (t)] σ (some (.int (gb (m_tr σ t && mc σ 17 t.toNatClampNeg)))) (m_first σ (m_tr σ t)) := by
  intro G hR0
  refine gMet.of (by decide) (Nat.le_of_ble_eq_true rfl) (fun p e s m below meth c ls hx hb X hr hin hG hS hl => ?_)
  have X : gC K p s m _ meth c cX2_isProven 2 "KalmanQuayModel" := X
  have hM := mPre hR0 hG
  have hl : lv_has ls 2 [(0, .ref (mo)), (1, .int (t))] := hl
  refine lv_aload_n hx hb dX2_isProven_0 rfl (lv_at hl 0 rfl) ?_
  refine lv_iload_n hx hb dX2_isProven_1 rfl (lv_at hl 1 rfl) ?_
  refine m_call X (met_X2_claimTrack l K mo A σ (t) (by omega)) gp_X2_claimTrack rfl q1567 q1569 qs30 q42 q1570 hM hS hl ⟨Nat.le_of_ble_eq_true rfl, Nat.le_of_ble_eq_true rfl⟩ ⟨Nat.le_refl _, Nat.le_refl _⟩ (rest := []) (Nat.le_of_ble_eq_true rfl) rfl dX2_isProven_2 (fun H locs hM hS => ?_)
  refine W.eq (g2 := F0 m 5 ls [.int (gb (m_tr σ t))]) rfl ?_
  refine g_ifb_eq hx hb 21 dX2_isProven_5 (by decide) (fun c_5 => ?_) (fun c_5 => ?_)
  · skip
    rw [c_5] at hM
    refine lv_iconst (v := 0) hx hb dX2_isProven_21 (by decide) ?_
    exact m_zret X hr hM hS rfl (by simp [c_5, gb]) (by rw [c_5]) (Nat.le_refl _) (Nat.le_refl _) dX2_isProven_22
  · skip
    rw [c_5] at hM
    obtain ⟨ht1, ht2⟩ := in_rng (n := mn σ 15) (by omega) c_5
    rw [ht1] at hl
    refine lv_aload_n hx hb dX2_isProven_8 rfl (lv_at hl 0 rfl) ?_
    refine mf17 X hM dX2_isProven_9 ?_
    refine lv_iload_n hx hb dX2_isProven_12 rfl (lv_at hl 1 rfl) ?_
    refine m_ldc X hM 17 40 rfl rfl (by omega) (by decide) dX2_isProven_13 ?_
    refine g_topE (z := gb (mc σ 17 t.toNatClampNeg)) (by simp [mc_m_first]) ?_
    refine g_ifb_eq hx hb 21 dX2_isProven_14 (by decide) (fun c_14 => ?_) (fun c_14 => ?_)
    · skip
      refine lv_iconst (v := 0) hx hb dX2_isProven_21 (by decide) ?_
      exact m_zret X hr hM hS rfl (by simp [c_5, c_14, gb]) (by rw [c_5]) (Nat.le_refl _) (Nat.le_refl _) dX2_isProven_22
    · skip
      refine lv_iconst (v := 1) hx hb dX2_isProven_17 (by decide) ?_
      refine lv_goto (tgt := 22) hx hb dX2_isProven_18 (by decide) ?_
      exact m_zret X hr hM hS rfl (by simp [c_5, c_14, gb]) (by rw [c_5]) (Nat.le_refl _) (Nat.le_refl _) dX2_isProven_22
def m_varOf (σ : mS) (t w : Int32) : mS := if m_tr σ t = true then m_claim (m_first σ true) (m_in w 0 2) 2 else m_first σ (m_tr σ t)
set_option maxHeartbeats 4000000 in
set_option maxRecDepth 100000 in
/-- varianceOf -/
theorem met_X2_varianceOf (l : Launch) (K : gK) (mo : Nat) (A : mA) (σ : mS) (t w : Int32) (h15 : mn σ 15 ≤ 40) : mMet l K mo A yX2_varianceOf cX2_varianceOf 3 (some .int) 3 112 [.int (t), .int (w)] σ (some (.int (if m_tr σ t = true ∧ m_in w 0 2 = true then (mN σ t.toNatClampNeg (2 + w.toNatClampNeg)).toInt32 else 0))) (m_varOf σ t w) := by
  intro G hR0
  refine gMet.of (by decide) (Nat.le_of_ble_eq_true rfl) (fun p e s m below meth c ls hx hb X hr hin hG hS hl => ?_)
  have X : gC K p s m _ meth c cX2_varianceOf 3 "KalmanQuayModel" := X
  have hM := mPre hR0 hG
  have hl : lv_has ls 3 [(0, .ref (mo)), (1, .int (t)), (2, .int (w))] := hl
  refine lv_aload_n hx hb dX2_varianceOf_0 rfl (lv_at hl 0 rfl) ?_
  refine lv_iload_n hx hb dX2_varianceOf_1 rfl (lv_at hl 1 rfl) ?_
  refine m_call X (met_X2_claimTrack l K mo A σ (t) (by omega)) gp_X2_claimTrack rfl q1567 q1569 qs30 q42 q1570 hM hS hl ⟨Nat.le_of_ble_eq_true rfl, Nat.le_of_ble_eq_true rfl⟩ ⟨Nat.le_refl _, Nat.le_refl _⟩ (rest := []) (Nat.le_of_ble_eq_true rfl) rfl dX2_varianceOf_2 (fun H locs hM hS => ?_)
  refine W.eq (g2 := F0 m 5 ls [.int (gb (m_tr σ t))]) rfl ?_
  refine g_ifb_eq hx hb 36 dX2_varianceOf_5 (by decide) (fun c_5 => ?_) (fun c_5 => ?_)
  · skip
    rw [c_5] at hM
    refine lv_iconst (v := 0) hx hb dX2_varianceOf_36 (by decide) ?_
    exact m_iret X hr hM hS (by simp [c_5]) (by rw [m_varOf, if_neg (by rw [c_5]; decide), c_5]) (Nat.le_refl _) (Nat.le_refl _) dX2_varianceOf_37
  · skip
    rw [c_5] at hM
    obtain ⟨ht1, ht2⟩ := in_rng (n := mn σ 15) (by omega) c_5
    rw [ht1] at hl
    refine lv_aload_n hx hb dX2_varianceOf_8 rfl (lv_at hl 0 rfl) ?_
    refine lv_iload_n hx hb dX2_varianceOf_9 rfl (lv_at hl 2 rfl) ?_
    refine lv_iconst (v := 0) hx hb dX2_varianceOf_10 (by decide) ?_
    refine lv_iconst (v := 2) hx hb dX2_varianceOf_11 (by decide) ?_
    refine m_callP X (met_X2_in l K (w) (0) (2) ) gp_X2_in rfl q1432 q1433 q42 q1434 hM hS hl ⟨Nat.le_of_ble_eq_true rfl, Nat.le_of_ble_eq_true rfl⟩ ⟨Nat.le_refl _, Nat.le_refl _⟩ (rest := [.ref (mo)]) (Nat.le_of_ble_eq_true rfl) rfl dX2_varianceOf_12 (fun H locs hM hS => ?_)
    refine W.eq (g2 := F0 m 15 ls [.int (gb (m_in w 0 2)), .ref (mo)]) rfl ?_
    refine lv_iconst (v := 2) hx hb dX2_varianceOf_15 (by decide) ?_
    refine m_call X (met_X2_claim l K mo A (m_first σ true) (m_in w 0 2) 2 ) gp_X2_claim rfl q1439 q1441 qs15 q42 q1442 hM hS hl ⟨Nat.le_of_ble_eq_true rfl, Nat.le_of_ble_eq_true rfl⟩ ⟨Nat.le_refl _, Nat.le_refl _⟩ (rest := []) (Nat.le_of_ble_eq_true rfl) rfl dX2_varianceOf_16 (fun H locs hM hS => ?_)
    refine W.eq (g2 := F0 m 19 ls [.int (gb (m_in w 0 2))]) rfl ?_
    refine g_ifb_eq hx hb 36 dX2_varianceOf_19 (by decide) (fun c_19 => ?_) (fun c_19 => ?_)
    · skip
      rw [c_19] at hM
      refine lv_iconst (v := 0) hx hb dX2_varianceOf_36 (by decide) ?_
      exact m_iret X hr hM hS (by simp [c_5, c_19]) (by rw [m_varOf, if_pos c_5, c_19]) (Nat.le_refl _) (Nat.le_refl _) dX2_varianceOf_37
    · skip
      rw [c_19] at hM
      obtain ⟨hw1, hw2⟩ := in_iff.mp c_19
      have hw3 := n_of hw1
      have hw4 : w.toNatClampNeg ≤ 2 := (n_le (x := w) (y := 2) (a := w.toNatClampNeg) (b := 2) hw3 rfl n_cl (by decide)).mp hw2
      refine lv_aload_n hx hb dX2_varianceOf_22 rfl (lv_at hl 0 rfl) ?_
      refine mf25 X hM dX2_varianceOf_23 ?_
      refine lv_iload_n hx hb dX2_varianceOf_26 rfl (lv_at hl 1 rfl) ?_
      refine m_aaN X hM rfl (by omega) dX2_varianceOf_27 ?_
      refine lv_iconst (v := 2) hx hb dX2_varianceOf_28 (by decide) ?_
      refine lv_iload_n hx hb dX2_varianceOf_29 rfl (lv_at hl 2 rfl) ?_
      refine lv_iadd hx hb dX2_varianceOf_30 ?_
      refine g_topN (n_add (a := 2) (b := w.toNatClampNeg) rfl hw3) ?_
      refine m_ldN X hM rfl (by omega) (by omega) dX2_varianceOf_31 ?_
      refine g_topL (z := mN σ t.toNatClampNeg (2 + w.toNatClampNeg)) (by simp [mN_m_claim, mN_m_first]) ?_
      refine lv_l2i hx hb dX2_varianceOf_32 rfl ?_
      refine lv_goto (tgt := 37) hx hb dX2_varianceOf_33 (by decide) ?_
      exact m_iret X hr hM hS (by simp [c_5, c_19]) (by rw [m_varOf, if_pos c_5, c_19]) (Nat.le_refl _) (Nat.le_refl _) dX2_varianceOf_37
set_option maxHeartbeats 4000000 in
set_option maxRecDepth 100000 in
/-- claimBeat -/
theorem met_X2_claimBeat (l : Launch) (K : gK) (mo : Nat) (A : mA) (σ : mS) (t b : Int32) (h15 : mn σ 15 ≤ 40) (hE : ∀ t, t < mn σ 15 → mb σ 20 t ≤ mb σ 21 t ∧ mb σ 21 t < 64) : mMet l K mo A yX2_claimBeat cX2_claimBeat 3 (some .boolean) 2 75 [.int (t), .int (b)] σ (some (.int (gb (m_bt σ t b)))) (m_first σ (m_bt σ t b)) := by
  intro G hR0
  refine gMet.of (by decide) (Nat.le_of_ble_eq_true rfl) (fun p e s m below meth c ls hx hb X hr hin hG hS hl => ?_)
  have X : gC K p s m _ meth c cX2_claimBeat 3 "KalmanQuayModel" := X
  have hM := mPre hR0 hG
  have hl : lv_has ls 3 [(0, .ref (mo)), (1, .int (t)), (2, .int (b))] := hl
  refine lv_aload_n hx hb dX2_claimBeat_0 rfl (lv_at hl 0 rfl) ?_
  refine lv_iload_n hx hb dX2_claimBeat_1 rfl (lv_at hl 1 rfl) ?_
  refine lv_iconst (v := 0) hx hb dX2_claimBeat_2 (by decide) ?_
  refine lv_aload_n hx hb dX2_claimBeat_3 rfl (lv_at hl 0 rfl) ?_
  refine mf15 X hM dX2_claimBeat_4 ?_
  refine lv_iconst (v := 1) hx hb dX2_claimBeat_7 (by decide) ?_
  refine lv_isub hx hb dX2_claimBeat_8 ?_
  refine m_callP X (met_X2_in l K (t) (0) ((nI (mn σ 15)) - 1) ) gp_X2_in rfl q1432 q1433 q42 q1434 hM hS hl ⟨Nat.le_of_ble_eq_true rfl, Nat.le_of_ble_eq_true rfl⟩ ⟨Nat.le_refl _, Nat.le_refl _⟩ (rest := [.ref (mo)]) (Nat.le_of_ble_eq_true rfl) rfl dX2_claimBeat_9 (fun H locs hM hS => ?_)
  refine W.eq (g2 := F0 m 12 ls [.int (gb (m_in t 0 ((nI (mn σ 15)) - 1))), .ref (mo)]) rfl ?_
  refine g_ifb_eq hx hb 38 dX2_claimBeat_12 (by decide) (fun c_12 => ?_) (fun c_12 => ?_)
  · skip
    refine lv_iconst (v := 0) hx hb dX2_claimBeat_38 (by decide) ?_
    refine m_call X (met_X2_claimFirst l K mo A σ false ) gp_X2_claimFirst rfl q1435 q1437 qs14 q42 q1438 hM hS hl ⟨Nat.le_of_ble_eq_true rfl, Nat.le_of_ble_eq_true rfl⟩ ⟨Nat.le_refl _, Nat.le_refl _⟩ (rest := []) (Nat.le_of_ble_eq_true rfl) rfl dX2_claimBeat_39 (fun H locs hM hS => ?_)
    refine W.eq (g2 := F0 m 42 ls [.int (0)]) rfl ?_
    exact m_zret X hr hM hS rfl (by rw [m_bt, m_tr, c_12]; rfl) (by rw [m_bt, m_tr, c_12]; rfl) (Nat.le_refl _) (Nat.le_refl _) dX2_claimBeat_42
  · skip
    obtain ⟨ht1, ht2⟩ := in_rng (n := mn σ 15) (by omega) c_12
    rw [ht1] at hl
    refine lv_iload_n hx hb dX2_claimBeat_15 rfl (lv_at hl 2 rfl) ?_
    refine lv_aload_n hx hb dX2_claimBeat_16 rfl (lv_at hl 0 rfl) ?_
    refine mf20 X hM dX2_claimBeat_17 ?_
    refine lv_iload_n hx hb dX2_claimBeat_20 rfl (lv_at hl 1 rfl) ?_
    refine m_ldb X hM 20 40 rfl rfl (by omega) (by decide) dX2_claimBeat_21 ?_
    refine lv_aload_n hx hb dX2_claimBeat_22 rfl (lv_at hl 0 rfl) ?_
    refine mf21 X hM dX2_claimBeat_23 ?_
    refine lv_iload_n hx hb dX2_claimBeat_26 rfl (lv_at hl 1 rfl) ?_
    refine m_ldb X hM 21 40 rfl rfl (by omega) (by decide) dX2_claimBeat_27 ?_
    refine m_callP X (met_X2_in l K (b) (nI (mb σ 20 t.toNatClampNeg)) (nI (mb σ 21 t.toNatClampNeg)) ) gp_X2_in rfl q1432 q1433 q42 q1434 hM hS hl ⟨Nat.le_of_ble_eq_true rfl, Nat.le_of_ble_eq_true rfl⟩ ⟨Nat.le_refl _, Nat.le_refl _⟩ (rest := [.ref (mo)]) (Nat.le_of_ble_eq_true rfl) rfl dX2_claimBeat_28 (fun H locs hM hS => ?_)
    refine W.eq (g2 := F0 m 31 ls [.int (gb (m_in b (nI (mb σ 20 t.toNatClampNeg)) (nI (mb σ 21 t.toNatClampNeg)))), .ref (mo)]) rfl ?_
    refine g_ifb_eq hx hb 38 dX2_claimBeat_31 (by decide) (fun c_31 => ?_) (fun c_31 => ?_)
    · skip
      refine lv_iconst (v := 0) hx hb dX2_claimBeat_38 (by decide) ?_
      refine m_call X (met_X2_claimFirst l K mo A σ false ) gp_X2_claimFirst rfl q1435 q1437 qs14 q42 q1438 hM hS hl ⟨Nat.le_of_ble_eq_true rfl, Nat.le_of_ble_eq_true rfl⟩ ⟨Nat.le_refl _, Nat.le_refl _⟩ (rest := []) (Nat.le_of_ble_eq_true rfl) rfl dX2_claimBeat_39 (fun H locs hM hS => ?_)
      refine W.eq (g2 := F0 m 42 ls [.int (0)]) rfl ?_
      exact m_zret X hr hM hS rfl (by rw [m_bt, m_tr, c_12, c_31]; rfl) (by rw [m_bt, m_tr, c_12, c_31]; rfl) (Nat.le_refl _) (Nat.le_refl _) dX2_claimBeat_42
    · skip
      refine lv_iconst (v := 1) hx hb dX2_claimBeat_34 (by decide) ?_
      refine lv_goto (tgt := 39) hx hb dX2_claimBeat_35 (by decide) ?_
      refine m_call X (met_X2_claimFirst l K mo A σ true ) gp_X2_claimFirst rfl q1435 q1437 qs14 q42 q1438 hM hS hl ⟨Nat.le_of_ble_eq_true rfl, Nat.le_of_ble_eq_true rfl⟩ ⟨Nat.le_refl _, Nat.le_refl _⟩ (rest := []) (Nat.le_of_ble_eq_true rfl) rfl dX2_claimBeat_39 (fun H locs hM hS => ?_)
      refine W.eq (g2 := F0 m 42 ls [.int (1)]) rfl ?_
      exact m_zret X hr hM hS rfl (by rw [m_bt, m_tr, c_12, c_31]; rfl) (by rw [m_bt, m_tr, c_12, c_31]; rfl) (Nat.le_refl _) (Nat.le_refl _) dX2_claimBeat_42
set_option maxHeartbeats 4000000 in
set_option maxRecDepth 100000 in
/-- placeAt -/
theorem met_X2_placeAt (l : Launch) (K : gK) (mo : Nat) (A : mA) (σ : mS) (t b : Int32) (h15 : mn σ 15 ≤ 40) (hE : ∀ t, t < mn σ 15 → mb σ 20 t ≤ mb σ 21 t ∧ mb σ 21 t < 64) : mMet l K mo A yX2_placeAt cX2_placeAt 3 (some .int) 3 113 [.int (t), .int (b)] σ (some (.int (if m_bt σ t b = true then (mB σ t.toNatClampNeg b.toNatClampNeg 0).toInt32 else 0))) (m_first σ (m_bt σ t b)) := by
  intro G hR0
  refine gMet.of (by decide) (Nat.le_of_ble_eq_true rfl) (fun p e s m below meth c ls hx hb X hr hin hG hS hl => ?_)
  have X : gC K p s m _ meth c cX2_placeAt 3 "KalmanQuayModel" := X
  have hM := mPre hR0 hG
  have hl : lv_has ls 3 [(0, .ref (mo)), (1, .int (t)), (2, .int (b))] := hl
  refine lv_aload_n hx hb dX2_placeAt_0 rfl (lv_at hl 0 rfl) ?_
  refine lv_iload_n hx hb dX2_placeAt_1 rfl (lv_at hl 1 rfl) ?_
  refine lv_iload_n hx hb dX2_placeAt_2 rfl (lv_at hl 2 rfl) ?_
  refine m_call X (met_X2_claimBeat l K mo A σ (t) (b) h15 hE) gp_X2_claimBeat rfl q1611 q1613 qs31 q42 q1614 hM hS hl ⟨Nat.le_of_ble_eq_true rfl, Nat.le_of_ble_eq_true rfl⟩ ⟨Nat.le_refl _, Nat.le_refl _⟩ (rest := []) (Nat.le_of_ble_eq_true rfl) rfl dX2_placeAt_3 (fun H locs hM hS => ?_)
  refine W.eq (g2 := F0 m 6 ls [.int (gb (m_bt σ t b))]) rfl ?_
  refine g_ifb_eq hx hb 23 dX2_placeAt_6 (by decide) (fun c_6 => ?_) (fun c_6 => ?_)
  · skip
    rw [c_6] at hM
    refine lv_iconst (v := 0) hx hb dX2_placeAt_23 (by decide) ?_
    exact m_iret X hr hM hS (by simp [c_6]) (by rw [c_6]) (Nat.le_refl _) (Nat.le_refl _) dX2_placeAt_24
  · skip
    rw [c_6] at hM
    obtain ⟨c_a, c_b⟩ := Bool.and_eq_true_iff.mp (show (m_tr σ t && m_in b (nI (mb σ 20 t.toNatClampNeg)) (nI (mb σ 21 t.toNatClampNeg))) = true from c_6)
    obtain ⟨ht1, ht2⟩ := in_rng (n := mn σ 15) (by omega) c_a
    have hE2 := hE _ ht2
    obtain ⟨hb1, hb2, hb3⟩ := in_rng2 (by omega) (by omega) c_b
    rw [ht1, hb1] at hl
    refine lv_aload_n hx hb dX2_placeAt_9 rfl (lv_at hl 0 rfl) ?_
    refine mf26 X hM dX2_placeAt_10 ?_
    refine lv_iload_n hx hb dX2_placeAt_13 rfl (lv_at hl 1 rfl) ?_
    refine m_aaB1 X hM rfl (by omega) dX2_placeAt_14 ?_
    refine lv_iload_n hx hb dX2_placeAt_15 rfl (lv_at hl 2 rfl) ?_
    refine m_aaB2 X hM rfl (by omega) (by omega) dX2_placeAt_16 ?_
    refine lv_iconst (v := 0) hx hb dX2_placeAt_17 (by decide) ?_
    refine m_ldB X hM rfl (by omega) (by omega) (by decide) dX2_placeAt_18 ?_
    refine W.eq (g2 := F0 m 19 ls [.long (mB σ t.toNatClampNeg b.toNatClampNeg 0)]) rfl ?_
    refine lv_l2i hx hb dX2_placeAt_19 rfl ?_
    refine lv_goto (tgt := 24) hx hb dX2_placeAt_20 (by decide) ?_
    exact m_iret X hr hM hS (by simp [c_6]) (by rw [c_6]) (Nat.le_refl _) (Nat.le_refl _) dX2_placeAt_24
set_option maxHeartbeats 4000000 in
set_option maxRecDepth 100000 in
/-- foretoldAt -/
theorem met_X2_foretoldAt (l : Launch) (K : gK) (mo : Nat) (A : mA) (σ : mS) (t b : Int32) (h15 : mn σ 15 ≤ 40) (hE : ∀ t, t < mn σ 15 → mb σ 20 t ≤ mb σ 21 t ∧ mb σ 21 t < 64) : mMet l K mo A yX2_foretoldAt cX2_foretoldAt 3 (some .int) 3 113 [.int (t), .int (b)] σ (some (.int (if m_bt σ t b = true then (mF σ t.toNatClampNeg b.toNatClampNeg 0).toInt32 else 0))) (m_first σ (m_bt σ t b)) := by
  intro G hR0
  refine gMet.of (by decide) (Nat.le_of_ble_eq_true rfl) (fun p e s m below meth c ls hx hb X hr hin hG hS hl => ?_)
  have X : gC K p s m _ meth c cX2_foretoldAt 3 "KalmanQuayModel" := X
  have hM := mPre hR0 hG
  have hl : lv_has ls 3 [(0, .ref (mo)), (1, .int (t)), (2, .int (b))] := hl
  refine lv_aload_n hx hb dX2_foretoldAt_0 rfl (lv_at hl 0 rfl) ?_
  refine lv_iload_n hx hb dX2_foretoldAt_1 rfl (lv_at hl 1 rfl) ?_
  refine lv_iload_n hx hb dX2_foretoldAt_2 rfl (lv_at hl 2 rfl) ?_
  refine m_call X (met_X2_claimBeat l K mo A σ (t) (b) h15 hE) gp_X2_claimBeat rfl q1611 q1613 qs31 q42 q1614 hM hS hl ⟨Nat.le_of_ble_eq_true rfl, Nat.le_of_ble_eq_true rfl⟩ ⟨Nat.le_refl _, Nat.le_refl _⟩ (rest := []) (Nat.le_of_ble_eq_true rfl) rfl dX2_foretoldAt_3 (fun H locs hM hS => ?_)
  refine W.eq (g2 := F0 m 6 ls [.int (gb (m_bt σ t b))]) rfl ?_
  refine g_ifb_eq hx hb 23 dX2_foretoldAt_6 (by decide) (fun c_6 => ?_) (fun c_6 => ?_)
  · skip
    rw [c_6] at hM
    refine lv_iconst (v := 0) hx hb dX2_foretoldAt_23 (by decide) ?_
    exact m_iret X hr hM hS (by simp [c_6]) (by rw [c_6]) (Nat.le_refl _) (Nat.le_refl _) dX2_foretoldAt_24
  · skip
    rw [c_6] at hM
    obtain ⟨c_a, c_b⟩ := Bool.and_eq_true_iff.mp (show (m_tr σ t && m_in b (nI (mb σ 20 t.toNatClampNeg)) (nI (mb σ 21 t.toNatClampNeg))) = true from c_6)
    obtain ⟨ht1, ht2⟩ := in_rng (n := mn σ 15) (by omega) c_a
    have hE2 := hE _ ht2
    obtain ⟨hb1, hb2, hb3⟩ := in_rng2 (by omega) (by omega) c_b
    rw [ht1, hb1] at hl
    refine lv_aload_n hx hb dX2_foretoldAt_9 rfl (lv_at hl 0 rfl) ?_
    refine mf27 X hM dX2_foretoldAt_10 ?_
    refine lv_iload_n hx hb dX2_foretoldAt_13 rfl (lv_at hl 1 rfl) ?_
    refine m_aaF1 X hM rfl (by omega) dX2_foretoldAt_14 ?_
    refine lv_iload_n hx hb dX2_foretoldAt_15 rfl (lv_at hl 2 rfl) ?_
    refine m_aaF2 X hM rfl (by omega) (by omega) dX2_foretoldAt_16 ?_
    refine lv_iconst (v := 0) hx hb dX2_foretoldAt_17 (by decide) ?_
    refine m_ldF X hM rfl (by omega) (by omega) (by decide) dX2_foretoldAt_18 ?_
    refine W.eq (g2 := F0 m 19 ls [.long (mF σ t.toNatClampNeg b.toNatClampNeg 0)]) rfl ?_
    refine lv_l2i hx hb dX2_foretoldAt_19 rfl ?_
    refine lv_goto (tgt := 24) hx hb dX2_foretoldAt_20 (by decide) ?_
    exact m_iret X hr hM hS (by simp [c_6]) (by rw [c_6]) (Nat.le_refl _) (Nat.le_refl _) dX2_foretoldAt_24
set_option maxHeartbeats 4000000 in
set_option maxRecDepth 100000 in
/-- under -/
theorem met_X2_under (l : Launch) (K : gK) (mo : Nat) (A : mA) (σ : mS) (t : Nat) (ht : t < 40) : mMet l K mo A yX2_under cX2_under 2 (some .long) 0 0 [.int (nI (t))] σ (some (.long (m_under σ t))) (σ) := by
  intro G hR0
  refine gMet.of (by decide) (Nat.le_of_ble_eq_true rfl) (fun p e s m below meth c ls hx hb X hr hin hG hS hl => ?_)
  have X : gC K p s m _ meth c cX2_under 2 "KalmanQuayModel" := X
  have hM := mPre hR0 hG
  have hl : lv_has ls 2 [(0, .ref (mo)), (1, .int (nI (t)))] := hl
  refine lv_aload_n hx hb dX2_under_0 rfl (lv_at hl 0 rfl) ?_
  refine mf28 X hM dX2_under_1 ?_
  refine lv_iload_n hx hb dX2_under_4 rfl (lv_at hl 1 rfl) ?_
  refine m_ldj X hM 28 40 rfl rfl (by omega) (by decide) dX2_under_5 ?_
  refine lv_aload_n hx hb dX2_under_6 rfl (lv_at hl 0 rfl) ?_
  refine mf30 X hM dX2_under_7 ?_
  refine lv_iload_n hx hb dX2_under_10 rfl (lv_at hl 1 rfl) ?_
  refine m_ldj X hM 30 40 rfl rfl (by omega) (by decide) dX2_under_11 ?_
  refine lv_lmul hx hb dX2_under_12 ?_
  refine lv_aload_n hx hb dX2_under_13 rfl (lv_at hl 0 rfl) ?_
  refine mf29 X hM dX2_under_14 ?_
  refine lv_iload_n hx hb dX2_under_17 rfl (lv_at hl 1 rfl) ?_
  refine m_ldj X hM 29 40 rfl rfl (by omega) (by decide) dX2_under_18 ?_
  refine lv_aload_n hx hb dX2_under_19 rfl (lv_at hl 0 rfl) ?_
  refine mf29 X hM dX2_under_20 ?_
  refine lv_iload_n hx hb dX2_under_23 rfl (lv_at hl 1 rfl) ?_
  refine m_ldj X hM 29 40 rfl rfl (by omega) (by decide) dX2_under_24 ?_
  refine lv_lmul hx hb dX2_under_25 ?_
  refine lv_lsub hx hb dX2_under_26 ?_
  exact m_lret X hr hM hS rfl rfl (Nat.le_refl _) (Nat.le_refl _) dX2_under_27
set_option maxHeartbeats 4000000 in
set_option maxRecDepth 100000 in
/-- speedBy -/
theorem met_X2_speedBy (l : Launch) (K : gK) (mo : Nat) (A : mA) (σ : mS) (t : Nat) (ht : t < 40) : mMet l K mo A yX2_speedBy cX2_speedBy 4 (some .long) 1 41 [.int (nI (t))] σ (some (.long (m_speedBy σ t))) (σ) := by
  intro G hR0
  refine gMet.of (by decide) (Nat.le_of_ble_eq_true rfl) (fun p e s m below meth c ls hx hb X hr hin hG hS hl => ?_)
  have X : gC K p s m _ meth c cX2_speedBy 4 "KalmanQuayModel" := X
  have hM := mPre hR0 hG
  have hl : lv_has ls 4 [(0, .ref (mo)), (1, .int (nI (t)))] := hl
  refine lv_aload_n hx hb dX2_speedBy_0 rfl (lv_at hl 0 rfl) ?_
  refine lv_iload_n hx hb dX2_speedBy_1 rfl (lv_at hl 1 rfl) ?_
  refine m_call X (met_X2_under l K mo A σ (t) (by omega)) gp_X2_under rfl q1649 q1651 qs35 q42 q1652 hM hS hl ⟨Nat.le_of_ble_eq_true rfl, Nat.le_of_ble_eq_true rfl⟩ ⟨Nat.le_refl _, Nat.le_refl _⟩ (rest := []) (Nat.le_of_ble_eq_true rfl) rfl dX2_speedBy_2 (fun H locs hM hS => ?_)
  refine W.eq (g2 := F0 m 5 ls [.long (m_under σ t)]) rfl ?_
  refine lv_lstore_n (lv' := [(2, .long (m_under σ t)), (0, .ref (mo)), (1, .int (nI (t)))]) hx hb dX2_speedBy_5 rfl hl (by decide) rfl (fun ls hl => ?_)
  refine lv_lload_n hx hb dX2_speedBy_6 rfl (lv_at hl 0 rfl) ?_
  refine lv_lconst (v := 0) hx hb dX2_speedBy_7 rfl ?_
  refine g_lif_ne hx hb 16 dX2_speedBy_8 dX2_speedBy_9 (by decide) (fun c_8 => ?_) (fun c_8 => ?_)
  · skip
    refine lv_aload_n hx hb dX2_speedBy_16 rfl (lv_at hl 1 rfl) ?_
    refine mf28 X hM dX2_speedBy_17 ?_
    refine lv_iload_n hx hb dX2_speedBy_20 rfl (lv_at hl 2 rfl) ?_
    refine m_ldj X hM 28 40 rfl rfl (by omega) (by decide) dX2_speedBy_21 ?_
    refine lv_aload_n hx hb dX2_speedBy_22 rfl (lv_at hl 1 rfl) ?_
    refine mf32 X hM dX2_speedBy_23 ?_
    refine lv_iload_n hx hb dX2_speedBy_26 rfl (lv_at hl 2 rfl) ?_
    refine m_ldj X hM 32 40 rfl rfl (by omega) (by decide) dX2_speedBy_27 ?_
    refine lv_lmul hx hb dX2_speedBy_28 ?_
    refine lv_aload_n hx hb dX2_speedBy_29 rfl (lv_at hl 1 rfl) ?_
    refine mf29 X hM dX2_speedBy_30 ?_
    refine lv_iload_n hx hb dX2_speedBy_33 rfl (lv_at hl 2 rfl) ?_
    refine m_ldj X hM 29 40 rfl rfl (by omega) (by decide) dX2_speedBy_34 ?_
    refine lv_aload_n hx hb dX2_speedBy_35 rfl (lv_at hl 1 rfl) ?_
    refine mf31 X hM dX2_speedBy_36 ?_
    refine lv_iload_n hx hb dX2_speedBy_39 rfl (lv_at hl 2 rfl) ?_
    refine m_ldj X hM 31 40 rfl rfl (by omega) (by decide) dX2_speedBy_40 ?_
    refine lv_lmul hx hb dX2_speedBy_41 ?_
    refine lv_lsub hx hb dX2_speedBy_42 ?_
    refine lv_ldc2 (v := 256) hx hb X.1.2.2.2.1 (X.1.2.2.2.2 _ q1511) dX2_speedBy_43 ?_
    refine lv_lmul hx hb dX2_speedBy_46 ?_
    refine lv_lload_n hx hb dX2_speedBy_47 rfl (lv_at hl 0 rfl) ?_
    refine m_callP X (met_J11_floorDiv l K ((((mj σ 28 t) * (mj σ 32 t)) - ((mj σ 29 t) * (mj σ 31 t))) * 256) (m_under σ t) c_8) gp_J11_floorDiv rfl q1526 q977 q52 q978 hM hS hl ⟨Nat.le_of_ble_eq_true rfl, Nat.le_of_ble_eq_true rfl⟩ ⟨Nat.le_refl _, Nat.le_refl _⟩ (rest := []) (Nat.le_of_ble_eq_true rfl) rfl dX2_speedBy_48 (fun H locs hM hS => ?_)
    refine W.eq (g2 := F0 m 51 ls [.long (l_fdiv ((((mj σ 28 t) * (mj σ 32 t)) - ((mj σ 29 t) * (mj σ 31 t))) * 256) (m_under σ t))]) rfl ?_
    exact m_lret X hr hM hS (by rw [m_speedBy, if_neg c_8]) rfl (Nat.le_refl _) (Nat.le_refl _) dX2_speedBy_51
  · skip
    refine lv_lconst (v := 0) hx hb dX2_speedBy_12 rfl ?_
    refine lv_goto (tgt := 51) hx hb dX2_speedBy_13 (by decide) ?_
    exact m_lret X hr hM hS (by rw [m_speedBy, if_pos c_8]) rfl (Nat.le_refl _) (Nat.le_refl _) dX2_speedBy_51
