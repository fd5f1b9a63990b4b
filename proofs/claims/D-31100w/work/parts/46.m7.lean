/-! the reference: seventh lot -/
set_option maxRecDepth 100000
theorem gp_X2_assign : gPar yX2_assign 1 := ⟨⟨by decide, by decide⟩, by decide +kernel⟩
theorem gp_X2_beginTrack : gPar yX2_beginTrack 1 := ⟨⟨by decide, by decide⟩, by decide +kernel⟩
theorem gp_X2_correct : gPar yX2_correct 2 := ⟨⟨by decide, by decide⟩, by decide +kernel⟩
theorem gp_X2_doBeat : gPar yX2_doBeat 0 := ⟨⟨by decide, by decide⟩, by decide +kernel⟩
theorem gp_X2_endBeat : gPar yX2_endBeat 1 := ⟨⟨by decide, by decide⟩, by decide +kernel⟩
theorem gp_X2_foretell : gPar yX2_foretell 1 := ⟨⟨by decide, by decide⟩, by decide +kernel⟩
set_option maxHeartbeats 4000000 in
set_option maxRecDepth 100000 in
/-- assign -/
theorem met_X2_assign (l : Launch) (K : gK) (mo : Nat) (A : mA) (σ : mS) (s0 : Nat) (hs4 : s0 < 4) (hA : aV σ) : mMet l K mo A yX2_assign cX2_assign 3 (none) 9 444 [.int (nI (s0))] σ (none) (m_assign σ s0) := by
  intro G hR0
  refine gMet.of (by decide) (Nat.le_of_ble_eq_true rfl) (fun p e s m below meth c ls hx hb X hr hin hG hS hl => ?_)
  have X : gC K p s m _ meth c cX2_assign 3 "KalmanQuayModel" := X
  have hM := mPre hR0 hG
  have hl : lv_has ls 3 [(0, .ref (mo)), (1, .int (nI (s0)))] := hl
  have hq0 := hA.1
  have hq1 := hA.2.1
  have hq2 := hA.2.2.1
  have h36 := (tV_lists hA s0).1
  simp only [mn_sl, mn_sz] at h36
  refine lv_aload_n hx hb dX2_assign_0 rfl (lv_at hl 0 rfl) ?_
  refine lv_iconst (v := 0) hx hb dX2_assign_1 (by decide) ?_
  refine mp34 X hM hS (v := 0) rfl dX2_assign_2 (fun H locs hM hS => ?_)
  refine lv_iconst (v := 0) hx hb dX2_assign_5 (by decide) ?_
  refine lv_istore_n (lv' := [(2, .int (0)), (0, .ref (mo)), (1, .int (nI (s0)))]) hx hb dX2_assign_6 rfl hl (by decide) rfl (fun ls hl => ?_)
  have loop_7 : ∀ (n i : Nat) (H : Heap) (locs : List Loc) (ls : Array Slot), i + n = mn σ 11 → mH K mo A (m_candL (sn σ 34 (0)) s0 i) G H → va_S (gA K) s.heap H locs → lv_has ls 3 [(2, .int (nI (i))), (0, .ref (mo)), (1, .int (nI (s0)))] → W p l e ({ frames := 9, cells := 0, slots := 0, locals := 444 } : Room) s m ([.ref (mo), .int (nI (s0))] : List Value).toArray below meth c H locs 0 0 (MQ below (gQ K (fun w G1 => w = (none) ∧ mR K mo A (m_assign σ s0) G1 ∧ gF mT G G1)) ([.ref (mo), .int (nI (s0))] : List Value).toArray s 0 0 (gA K)) (F0 m 7 ls []) := by
    intro n
    induction n with
    | zero =>
      intro i H locs ls hi_7 hM hS hl
      have hi2 : i = mn σ 11 := by omega
      subst hi2
      refine lv_iload_n hx hb dX2_assign_7 rfl (lv_at hl 0 rfl) ?_
      refine lv_aload_n hx hb dX2_assign_8 rfl (lv_at hl 1 rfl) ?_
      refine mf11 X hM dX2_assign_9 ?_
      refine g_topE (z := nI (mn σ 11)) (by simp [mn_m_candL, mn_sn]) ?_
      refine g_icmp_ge hx hb 51 dX2_assign_12 (by decide) (a := mn σ 11) (b := mn σ 11) rfl rfl (by omega) (by omega) (fun c_12 => ?_) (fun c_12 => ?_)
      · skip
        refine lv_aload_n hx hb dX2_assign_51 rfl (lv_at hl 1 rfl) ?_
        refine lv_iconst (v := 0) hx hb dX2_assign_52 (by decide) ?_
        refine mp36 X hM hS (v := 0) rfl dX2_assign_53 (fun H locs hM hS => ?_)
        refine lv_iconst (v := 0) hx hb dX2_assign_56 (by decide) ?_
        refine lv_istore_n (lv' := [(2, .int (0)), (0, .ref (mo)), (1, .int (nI (s0)))]) hx hb dX2_assign_57 rfl hl (by decide) rfl (fun ls hl => ?_)
        have loop_58 : ∀ (n i : Nat) (H : Heap) (locs : List Loc) (ls : Array Slot), i + n = mn σ 15 → mH K mo A (m_seekL (sn (m_candL (sn σ 34 (0)) s0 (mn σ 11)) 36 (0)) i) G H → va_S (gA K) s.heap H locs → lv_has ls 3 [(2, .int (nI (i))), (0, .ref (mo)), (1, .int (nI (s0)))] → W p l e ({ frames := 9, cells := 0, slots := 0, locals := 444 } : Room) s m ([.ref (mo), .int (nI (s0))] : List Value).toArray below meth c H locs 0 0 (MQ below (gQ K (fun w G1 => w = (none) ∧ mR K mo A (m_assign σ s0) G1 ∧ gF mT G G1)) ([.ref (mo), .int (nI (s0))] : List Value).toArray s 0 0 (gA K)) (F0 m 58 ls []) := by
          intro n
          induction n with
          | zero =>
            intro i H locs ls hi_58 hM hS hl
            have hi2 : i = mn σ 15 := by omega
            subst hi2
            have e_L : m_seekL (sn (m_candL (sn σ 34 0) s0 (mn σ 11)) 36 0) (mn σ 15) = m_lists σ s0 := by rw [m_lists_eq, mn_m_candL _ _ _ _ (by decide)]; simp [mn_sn]
            rw [e_L] at hM
            refine lv_iload_n hx hb dX2_assign_58 rfl (lv_at hl 0 rfl) ?_
            refine lv_aload_n hx hb dX2_assign_59 rfl (lv_at hl 1 rfl) ?_
            refine mf15 X hM dX2_assign_60 ?_
            refine g_topE (z := nI (mn σ 15)) (by simp [mn_m_lists]) ?_
            refine g_icmp_ge hx hb 110 dX2_assign_63 (by decide) (a := mn σ 15) (b := mn σ 15) rfl rfl (by omega) (by omega) (fun c_63 => ?_) (fun c_63 => ?_)
            · skip
              refine lv_aload_n hx hb dX2_assign_110 rfl (lv_at hl 1 rfl) ?_
              refine lv_iconst (v := (-1)) hx hb dX2_assign_111 (by decide) ?_
              refine mp39 X hM hS (v := (-1)) dX2_assign_112 (fun H locs hM hS => ?_)
              refine lv_aload_n hx hb dX2_assign_115 rfl (lv_at hl 1 rfl) ?_
              refine lv_lconst (v := 0) hx hb dX2_assign_116 rfl ?_
              refine mp40 X hM hS (v := 0) dX2_assign_117 (fun H locs hM hS => ?_)
              refine lv_aload_n hx hb dX2_assign_120 rfl (lv_at hl 1 rfl) ?_
              refine lv_iconst (v := 0) hx hb dX2_assign_121 (by decide) ?_
              refine lv_iconst (v := 0) hx hb dX2_assign_122 (by decide) ?_
              refine lv_iconst (v := 0) hx hb dX2_assign_123 (by decide) ?_
              refine lv_lconst (v := 0) hx hb dX2_assign_124 rfl ?_
              refine m_call X (met_X2_tryFrom l K mo A (mn (m_lists σ s0) 36) 8 402 0 0 0 0 (sl (sz (m_lists σ s0) 39 ((-1))) 40 (0)) (by have := (tV_lists hA s0).1; simp only [mn_sl, mn_sz] at this; omega) (by have := (tV_lists hA s0).1; simp only [mn_sl, mn_sz] at this; omega) (tV_lists hA s0) (by simp [mn_sl, mn_sz]) (Nat.le_refl _)) gp_X2_tryFrom rfl q1499 q1501 qs20 q42 q1502 hM hS hl ⟨Nat.le_of_ble_eq_true rfl, Nat.le_of_ble_eq_true rfl⟩ ⟨Nat.le_refl _, Nat.le_refl _⟩ (rest := []) (Nat.le_of_ble_eq_true rfl) rfl dX2_assign_125 (fun H locs hM hS => ?_)
              refine W.eq (g2 := F0 m 128 ls []) rfl ?_
              have hM : mH K mo A (m_best (m_lists σ s0)) G H := hM
              refine lv_iconst (v := 0) hx hb dX2_assign_128 (by decide) ?_
              refine lv_istore_n (lv' := [(2, .int (0)), (0, .ref (mo)), (1, .int (nI (s0)))]) hx hb dX2_assign_129 rfl hl (by decide) rfl (fun ls hl => ?_)
              have loop_130 : ∀ (n i : Nat) (H : Heap) (locs : List Loc) (ls : Array Slot), i + n = mn (m_lists σ s0) 36 → mH K mo A (m_corrL (m_best (m_lists σ s0)) i) G H → va_S (gA K) s.heap H locs → lv_has ls 3 [(2, .int (nI (i))), (0, .ref (mo)), (1, .int (nI (s0)))] → W p l e ({ frames := 9, cells := 0, slots := 0, locals := 444 } : Room) s m ([.ref (mo), .int (nI (s0))] : List Value).toArray below meth c H locs 0 0 (MQ below (gQ K (fun w G1 => w = (none) ∧ mR K mo A (m_assign σ s0) G1 ∧ gF mT G G1)) ([.ref (mo), .int (nI (s0))] : List Value).toArray s 0 0 (gA K)) (F0 m 130 ls []) := by
                intro n
                induction n with
                | zero =>
                  intro i H locs ls hi_130 hM hS hl
                  have hAt := aV_corrL (aV_best (aV_lists hA s0)) i
                  have hi3 : i = mn (m_lists σ s0) 36 := by omega
                  subst hi3
                  refine lv_iload_n hx hb dX2_assign_130 rfl (lv_at hl 0 rfl) ?_
                  refine lv_aload_n hx hb dX2_assign_131 rfl (lv_at hl 1 rfl) ?_
                  refine mf36 X hM dX2_assign_132 ?_
                  refine g_topE (z := nI (mn (m_lists σ s0) 36)) (by simp [mn_m_corrL, mn_m_best, mn_m_lists]) ?_
                  refine g_icmp_ge hx hb 170 dX2_assign_135 (by decide) (a := mn (m_lists σ s0) 36) (b := mn (m_lists σ s0) 36) rfl rfl (by omega) (by omega) (fun c_135 => ?_) (fun c_135 => ?_)
                  · skip
                    exact m_vret X hr hM hS rfl (by rw [m_assign_eq, mn_m_best]) (Nat.le_refl _) (Nat.le_refl _) dX2_assign_170
                  · skip
                    exact absurd c_135 (by omega)
                | succ n ih_130 =>
                  intro i H locs ls hi_130 hM hS hl
                  have hAt := aV_corrL (aV_best (aV_lists hA s0)) i
                  have h36 := (tV_lists hA s0).1
                  simp only [mn_sl, mn_sz] at h36
                  refine lv_iload_n hx hb dX2_assign_130 rfl (lv_at hl 0 rfl) ?_
                  refine lv_aload_n hx hb dX2_assign_131 rfl (lv_at hl 1 rfl) ?_
                  refine mf36 X hM dX2_assign_132 ?_
                  refine g_topE (z := nI (mn (m_lists σ s0) 36)) (by simp [mn_m_corrL, mn_m_best, mn_m_lists]) ?_
                  refine g_icmp_ge hx hb 170 dX2_assign_135 (by decide) (a := i) (b := mn (m_lists σ s0) 36) rfl rfl (by omega) (by omega) (fun c_135 => ?_) (fun c_135 => ?_)
                  · skip
                    exact absurd c_135 (by omega)
                  · skip
                    refine lv_aload_n hx hb dX2_assign_138 rfl (lv_at hl 1 rfl) ?_
                    refine mf38 X hM dX2_assign_139 ?_
                    refine lv_iload_n hx hb dX2_assign_142 rfl (lv_at hl 0 rfl) ?_
                    refine m_lda X hM 38 6 rfl rfl (by omega) (by decide) dX2_assign_143 ?_
                    refine g_topE (z := ma (m_best (m_lists σ s0)) 38 i) (by simp [ma_m_corrL, ma_m_best]) ?_
                    refine lv_iconst (v := (-1)) hx hb dX2_assign_144 (by decide) ?_
                    refine lv_icmp_eq (tgt := 164) hx hb dX2_assign_145 (by decide) (fun c_145 => ?_) (fun c_145 => ?_)
                    · skip
                      refine lv_iinc (v := nI (i + 1)) (lv' := [(2, .int (nI (i + 1))), (0, .ref (mo)), (1, .int (nI (s0)))]) hx hb dX2_assign_164 hl (k := 0) rfl (n_add (a := i) (b := 1) rfl rfl) (by decide) rfl (fun ls hl => ?_)
                      refine lv_goto (tgt := 130) hx hb dX2_assign_167 (by decide) ?_
                      have e_1 : m_corrL (m_best (m_lists σ s0)) (i + 1) = m_corrL (m_best (m_lists σ s0)) i := by rw [m_corrL_succ, m_corr, ma_m_corrL _ _ _ _ (by decide), mb_m_corrL _ _ _ _ (by decide), mb_m_best]; simp [c_145]
                      rw [← e_1] at hM
                      exact ih_130 (i + 1) H locs ls (by omega) hM hS (lv_sub hl [0, 1, 2] rfl)
                    · skip
                      obtain ⟨hg1, hg2⟩ := best_rng hA s0 (i := i) (by omega) c_145
                      have hl35 := ((lists_s σ s0).2 i (by omega)).1
                      have hq1 := hA.2.1
                      have hq2 := hA.2.2.1
                      refine lv_aload_n hx hb dX2_assign_148 rfl (lv_at hl 1 rfl) ?_
                      refine lv_aload_n hx hb dX2_assign_149 rfl (lv_at hl 1 rfl) ?_
                      refine mf35 X hM dX2_assign_150 ?_
                      refine lv_iload_n hx hb dX2_assign_153 rfl (lv_at hl 0 rfl) ?_
                      refine m_ldb X hM 35 6 rfl rfl (by omega) (by decide) dX2_assign_154 ?_
                      refine g_topE (z := nI (mb (m_lists σ s0) 35 i)) (by simp [mb_m_corrL, mb_m_best, mb_m_lists]) ?_
                      refine lv_aload_n hx hb dX2_assign_155 rfl (lv_at hl 1 rfl) ?_
                      refine mf38 X hM dX2_assign_156 ?_
                      refine lv_iload_n hx hb dX2_assign_159 rfl (lv_at hl 0 rfl) ?_
                      refine m_lda X hM 38 6 rfl rfl (by omega) (by decide) dX2_assign_160 ?_
                      refine g_topE (z := ma (m_best (m_lists σ s0)) 38 i) (by simp [ma_m_corrL, ma_m_best]) ?_
                      refine g_topE (z := nI (ma (m_best (m_lists σ s0)) 38 i).toNatClampNeg) hg1 ?_
                      refine m_call X (met_X2_correct l K mo A (m_corrL (m_best (m_lists σ s0)) i) (mb (m_lists σ s0) 35 i) ((ma (m_best (m_lists σ s0)) 38 i).toNatClampNeg) (by omega) (by omega) (by have := hAt.2.2.2.2.1 _ (show (ma (m_best (m_lists σ s0)) 38 i).toNatClampNeg < mn (m_corrL (m_best (m_lists σ s0)) i) 11 by rw [mn_m_corrL _ _ _ (by decide), mn_m_best, mn_m_lists _ _ _ (by decide) (by decide)]; exact hg2); have := hAt.1; omega) (hAt.hz (show mb (m_lists σ s0) 35 i < mn (m_corrL (m_best (m_lists σ s0)) i) 15 by rw [mn_m_corrL _ _ _ (by decide), mn_m_best, mn_m_lists _ _ _ (by decide) (by decide)]; exact hl35) (show (ma (m_best (m_lists σ s0)) 38 i).toNatClampNeg < mn (m_corrL (m_best (m_lists σ s0)) i) 11 by rw [mn_m_corrL _ _ _ (by decide), mn_m_best, mn_m_lists _ _ _ (by decide) (by decide)]; exact hg2)) (hAt.hv (show (ma (m_best (m_lists σ s0)) 38 i).toNatClampNeg < mn (m_corrL (m_best (m_lists σ s0)) i) 11 by rw [mn_m_corrL _ _ _ (by decide), mn_m_best, mn_m_lists _ _ _ (by decide) (by decide)]; exact hg2))) gp_X2_correct rfl q1521 q1523 qs25 q42 q1524 hM hS hl ⟨Nat.le_of_ble_eq_true rfl, Nat.le_of_ble_eq_true rfl⟩ ⟨Nat.le_refl _, Nat.le_refl _⟩ (rest := []) (Nat.le_of_ble_eq_true rfl) rfl dX2_assign_161 (fun H locs hM hS => ?_)
                      refine W.eq (g2 := F0 m 164 ls []) rfl ?_
                      refine lv_iinc (v := nI (i + 1)) (lv' := [(2, .int (nI (i + 1))), (0, .ref (mo)), (1, .int (nI (s0)))]) hx hb dX2_assign_164 hl (k := 0) rfl (n_add (a := i) (b := 1) rfl rfl) (by decide) rfl (fun ls hl => ?_)
                      refine lv_goto (tgt := 130) hx hb dX2_assign_167 (by decide) ?_
                      have e_1 : m_corrL (m_best (m_lists σ s0)) (i + 1) = m_correct (m_corrL (m_best (m_lists σ s0)) i) (mb (m_lists σ s0) 35 i) ((ma (m_best (m_lists σ s0)) 38 i).toNatClampNeg) := by rw [m_corrL_succ, m_corr, ma_m_corrL _ _ _ _ (by decide), mb_m_corrL _ _ _ _ (by decide), mb_m_best]; simp [c_145]
                      rw [← e_1] at hM
                      exact ih_130 (i + 1) H locs ls (by omega) hM hS (lv_sub hl [0, 1, 2] rfl)
              exact loop_130 (mn (m_lists σ s0) 36) 0 _ _ ls (by omega) hM hS (lv_sub hl [0, 1, 2] rfl)
            · skip
              exact absurd c_63 (by omega)
          | succ n ih_58 =>
            intro i H locs ls hi_58 hM hS hl
            have hs36 := (seek_inv (sn (m_candL (sn σ 34 0) s0 (mn σ 11)) 36 0) i (by simp [mn_sn])).1
            rw [m_cnt_eq (fun t _ => skr_c σ s0 (mn σ 11) t)] at hs36
            refine lv_iload_n hx hb dX2_assign_58 rfl (lv_at hl 0 rfl) ?_
            refine lv_aload_n hx hb dX2_assign_59 rfl (lv_at hl 1 rfl) ?_
            refine mf15 X hM dX2_assign_60 ?_
            refine g_topE (z := nI (mn σ 15)) (by simp [mn_m_seekL, mn_sn, mn_m_candL]) ?_
            refine g_icmp_ge hx hb 110 dX2_assign_63 (by decide) (a := i) (b := mn σ 15) rfl rfl (by omega) (by omega) (fun c_63 => ?_) (fun c_63 => ?_)
            · skip
              exact absurd c_63 (by omega)
            · skip
              refine lv_aload_n hx hb dX2_assign_66 rfl (lv_at hl 1 rfl) ?_
              refine mf16 X hM dX2_assign_67 ?_
              refine lv_iload_n hx hb dX2_assign_70 rfl (lv_at hl 0 rfl) ?_
              refine m_ldc X hM 16 40 rfl rfl (by omega) (by decide) dX2_assign_71 ?_
              refine g_topE (z := gb (mc σ 16 i)) (by simp [mc_m_seekL, mc_sn, mc_m_candL]) ?_
              refine g_ifb_eq hx hb 104 dX2_assign_72 (by decide) (fun c_72 => ?_) (fun c_72 => ?_)
              · skip
                refine lv_iinc (v := nI (i + 1)) (lv' := [(2, .int (nI (i + 1))), (0, .ref (mo)), (1, .int (nI (s0)))]) hx hb dX2_assign_104 hl (k := 0) rfl (n_add (a := i) (b := 1) rfl rfl) (by decide) rfl (fun ls hl => ?_)
                refine lv_goto (tgt := 58) hx hb dX2_assign_107 (by decide) ?_
                have e_1 : m_seekL (sn (m_candL (sn σ 34 0) s0 (mn σ 11)) 36 0) (i + 1) = m_seekL (sn (m_candL (sn σ 34 (0)) s0 (mn σ 11)) 36 (0)) i := by rw [m_seekL_succ, m_seek, mc_m_seekL, mc_m_seekL]; simp [mc_sn, mc_m_candL, c_72]
                rw [← e_1] at hM
                exact ih_58 (i + 1) H locs ls (by omega) hM hS (lv_sub hl [0, 1, 2] rfl)
              · skip
                refine lv_aload_n hx hb dX2_assign_75 rfl (lv_at hl 1 rfl) ?_
                refine mf18 X hM dX2_assign_76 ?_
                refine lv_iload_n hx hb dX2_assign_79 rfl (lv_at hl 0 rfl) ?_
                refine m_ldc X hM 18 40 rfl rfl (by omega) (by decide) dX2_assign_80 ?_
                refine g_topE (z := gb (mc σ 18 i)) (by simp [mc_m_seekL, mc_sn, mc_m_candL]) ?_
                refine g_ifb_ne hx hb 104 dX2_assign_81 (by decide) (fun c_81 => ?_) (fun c_81 => ?_)
                · skip
                  refine lv_iinc (v := nI (i + 1)) (lv' := [(2, .int (nI (i + 1))), (0, .ref (mo)), (1, .int (nI (s0)))]) hx hb dX2_assign_104 hl (k := 0) rfl (n_add (a := i) (b := 1) rfl rfl) (by decide) rfl (fun ls hl => ?_)
                  refine lv_goto (tgt := 58) hx hb dX2_assign_107 (by decide) ?_
                  have e_1 : m_seekL (sn (m_candL (sn σ 34 0) s0 (mn σ 11)) 36 0) (i + 1) = m_seekL (sn (m_candL (sn σ 34 (0)) s0 (mn σ 11)) 36 (0)) i := by rw [m_seekL_succ, m_seek, mc_m_seekL, mc_m_seekL]; simp [mc_sn, mc_m_candL, c_72, c_81]
                  rw [← e_1] at hM
                  exact ih_58 (i + 1) H locs ls (by omega) hM hS (lv_sub hl [0, 1, 2] rfl)
                · skip
                  have hk1 : skr σ i = true := by rw [skr, c_72, c_81]; rfl
                  have hk2 := m_cnt_up (skr σ) (n := i + 1) (m := mn σ 15) (by omega)
                  rw [m_cnt, if_pos hk1] at hk2
                  have hk3 := seek_le hA
                  refine lv_aload_n hx hb dX2_assign_84 rfl (lv_at hl 1 rfl) ?_
                  refine mf35 X hM dX2_assign_85 ?_
                  refine lv_aload_n hx hb dX2_assign_88 rfl (lv_at hl 1 rfl) ?_
                  refine mf36 X hM dX2_assign_89 ?_
                  refine lv_iload_n hx hb dX2_assign_92 rfl (lv_at hl 0 rfl) ?_
                  refine m_stb X hM hS 35 6 (fun _ => rfl) rfl (by omega) (by decide) (by decide) (v := i) rfl dX2_assign_93 (fun H locs hM hS => ?_)
                  refine lv_aload_n hx hb dX2_assign_94 rfl (lv_at hl 1 rfl) ?_
                  refine lv_dup hx hb dX2_assign_95 rfl ?_
                  refine mf36 X hM dX2_assign_96 ?_
                  refine g_topE (z := nI (mn (m_seekL (sn (m_candL (sn σ 34 (0)) s0 (mn σ 11)) 36 (0)) i) 36)) (by simp [mn_sb, mn_m_seekL]) ?_
                  refine lv_iconst (v := 1) hx hb dX2_assign_99 (by decide) ?_
                  refine lv_iadd hx hb dX2_assign_100 ?_
                  refine g_topN (n_add (a := mn (m_seekL (sn (m_candL (sn σ 34 (0)) s0 (mn σ 11)) 36 (0)) i) 36) (b := 1) rfl rfl) ?_
                  refine mp36 X hM hS (v := (mn (m_seekL (sn (m_candL (sn σ 34 (0)) s0 (mn σ 11)) 36 (0)) i) 36) + 1) rfl dX2_assign_101 (fun H locs hM hS => ?_)
                  refine lv_iinc (v := nI (i + 1)) (lv' := [(2, .int (nI (i + 1))), (0, .ref (mo)), (1, .int (nI (s0)))]) hx hb dX2_assign_104 hl (k := 0) rfl (n_add (a := i) (b := 1) rfl rfl) (by decide) rfl (fun ls hl => ?_)
                  refine lv_goto (tgt := 58) hx hb dX2_assign_107 (by decide) ?_
                  have e_1 : m_seekL (sn (m_candL (sn σ 34 0) s0 (mn σ 11)) 36 0) (i + 1) = sn (sb (m_seekL (sn (m_candL (sn σ 34 (0)) s0 (mn σ 11)) 36 (0)) i) 35 (mn (m_seekL (sn (m_candL (sn σ 34 (0)) s0 (mn σ 11)) 36 (0)) i) 36) (i)) 36 ((mn (m_seekL (sn (m_candL (sn σ 34 (0)) s0 (mn σ 11)) 36 (0)) i) 36) + 1) := by rw [m_seekL_succ, m_seek, mc_m_seekL, mc_m_seekL]; simp [mc_sn, mc_m_candL, c_72, c_81]
                  rw [← e_1] at hM
                  exact ih_58 (i + 1) H locs ls (by omega) hM hS (lv_sub hl [0, 1, 2] rfl)
        exact loop_58 (mn σ 15) 0 _ _ ls (by omega) hM hS (lv_sub hl [0, 1, 2] rfl)
      · skip
        exact absurd c_12 (by omega)
    | succ n ih_7 =>
      intro i H locs ls hi_7 hM hS hl
      have hc34 := (cand_inv (sn σ 34 0) s0 i (by simp [mn_sn])).1
      have hA9 : i < mn σ 11 → mb σ 9 i < mn σ 5 := hA.2.2.2.2.1 i
      refine lv_iload_n hx hb dX2_assign_7 rfl (lv_at hl 0 rfl) ?_
      refine lv_aload_n hx hb dX2_assign_8 rfl (lv_at hl 1 rfl) ?_
      refine mf11 X hM dX2_assign_9 ?_
      refine g_topE (z := nI (mn σ 11)) (by simp [mn_m_candL, mn_sn]) ?_
      refine g_icmp_ge hx hb 51 dX2_assign_12 (by decide) (a := i) (b := mn σ 11) rfl rfl (by omega) (by omega) (fun c_12 => ?_) (fun c_12 => ?_)
      · skip
        exact absurd c_12 (by omega)
      · skip
        refine lv_aload_n hx hb dX2_assign_15 rfl (lv_at hl 1 rfl) ?_
        refine mf9 X hM dX2_assign_16 ?_
        refine lv_iload_n hx hb dX2_assign_19 rfl (lv_at hl 0 rfl) ?_
        refine m_ldb X hM 9 8 rfl rfl (by omega) (by decide) dX2_assign_20 ?_
        refine g_topE (z := nI (mb σ 9 i)) (by simp [mb_m_candL, mb_sn]) ?_
        refine lv_iload_n hx hb dX2_assign_21 rfl (lv_at hl 2 rfl) ?_
        refine g_icmp_ne hx hb 45 dX2_assign_22 (by decide) (a := mb σ 9 i) (b := s0) rfl rfl (by omega) (by omega) (fun c_22 => ?_) (fun c_22 => ?_)
        · skip
          refine lv_iinc (v := nI (i + 1)) (lv' := [(2, .int (nI (i + 1))), (0, .ref (mo)), (1, .int (nI (s0)))]) hx hb dX2_assign_45 hl (k := 0) rfl (n_add (a := i) (b := 1) rfl rfl) (by decide) rfl (fun ls hl => ?_)
          refine lv_goto (tgt := 7) hx hb dX2_assign_48 (by decide) ?_
          have e_1 : m_candL (sn σ 34 0) s0 (i + 1) = m_candL (sn σ 34 (0)) s0 i := by rw [m_candL_succ, m_cand, mb_m_candL _ _ _ _ _ (by decide), mb_sn]; simp [c_22]
          rw [← e_1] at hM
          exact ih_7 (i + 1) H locs ls (by omega) hM hS (lv_sub hl [0, 1, 2] rfl)
        · skip
          refine lv_aload_n hx hb dX2_assign_25 rfl (lv_at hl 1 rfl) ?_
          refine mf33 X hM dX2_assign_26 ?_
          refine lv_aload_n hx hb dX2_assign_29 rfl (lv_at hl 1 rfl) ?_
          refine mf34 X hM dX2_assign_30 ?_
          refine lv_iload_n hx hb dX2_assign_33 rfl (lv_at hl 0 rfl) ?_
          refine m_stb X hM hS 33 8 (fun _ => rfl) rfl (by omega) (by decide) (by decide) (v := i) rfl dX2_assign_34 (fun H locs hM hS => ?_)
          refine lv_aload_n hx hb dX2_assign_35 rfl (lv_at hl 1 rfl) ?_
          refine lv_dup hx hb dX2_assign_36 rfl ?_
          refine mf34 X hM dX2_assign_37 ?_
          refine g_topE (z := nI (mn (m_candL (sn σ 34 (0)) s0 i) 34)) (by simp [mn_sb, mn_m_candL]) ?_
          refine lv_iconst (v := 1) hx hb dX2_assign_40 (by decide) ?_
          refine lv_iadd hx hb dX2_assign_41 ?_
          refine g_topN (n_add (a := mn (m_candL (sn σ 34 (0)) s0 i) 34) (b := 1) rfl rfl) ?_
          refine mp34 X hM hS (v := (mn (m_candL (sn σ 34 (0)) s0 i) 34) + 1) rfl dX2_assign_42 (fun H locs hM hS => ?_)
          refine lv_iinc (v := nI (i + 1)) (lv' := [(2, .int (nI (i + 1))), (0, .ref (mo)), (1, .int (nI (s0)))]) hx hb dX2_assign_45 hl (k := 0) rfl (n_add (a := i) (b := 1) rfl rfl) (by decide) rfl (fun ls hl => ?_)
          refine lv_goto (tgt := 7) hx hb dX2_assign_48 (by decide) ?_
          have e_1 : m_candL (sn σ 34 0) s0 (i + 1) = sn (sb (m_candL (sn σ 34 (0)) s0 i) 33 (mn (m_candL (sn σ 34 (0)) s0 i) 34) (i)) 34 ((mn (m_candL (sn σ 34 (0)) s0 i) 34) + 1) := by rw [m_candL_succ, m_cand, mb_m_candL _ _ _ _ _ (by decide), mb_sn]; simp [c_22]
          rw [← e_1] at hM
          exact ih_7 (i + 1) H locs ls (by omega) hM hS (lv_sub hl [0, 1, 2] rfl)
  exact loop_7 (mn σ 11) 0 _ _ ls (by omega) hM hS (lv_sub hl [0, 1, 2] rfl)
set_option maxHeartbeats 4000000 in
set_option maxRecDepth 100000 in
/-- doBeat -/
theorem met_X2_doBeat (l : Launch) (K : gK) (mo : Nat) (A : mA) (σ : mS) (hA : aV (sn σ 11 (mn σ 8))) : mMet l K mo A yX2_doBeat cX2_doBeat 2 (none) 10 482 [] σ (none) (m_doBeat σ) := by
  intro G hR0
  refine gMet.of (by decide) (Nat.le_of_ble_eq_true rfl) (fun p e s m below meth c ls hx hb X hr hin hG hS hl => ?_)
  have X : gC K p s m _ meth c cX2_doBeat 2 "KalmanQuayModel" := X
  have hM := mPre hR0 hG
  have hl : lv_has ls 2 [(0, .ref (mo))] := hl
  have hq0 := hA.1
  have hq1 := hA.2.1
  have hq2 := hA.2.2.1
  have hq3 := hA.2.2.2.1
  simp only [mn_sn] at hq0 hq1 hq2 hq3
  simp at hq0 hq1 hq2 hq3
  have hA2 := aV_d2L (aV_d1L hA (mn σ 15)) (mn σ 8)
  have hA3 := aV_d3L hA2 (mn σ 5)
  have h11c : mn (m_d3L (m_d2L (m_d1L (sn σ 11 (mn σ 8)) (mn σ 15)) (mn σ 8)) (mn σ 5)) 11 = mn σ 8 := by simp [mn_m_d3L, mn_m_d2L, mn_m_d1L, mn_sn]
  have hA4 := aV_d4L hA3 (mn σ 8) (by rw [h11c]; exact Nat.le_refl _)
  have hq5 := hA4.2.2.1
  have hq6 := hA4.2.2.2.1
  refine lv_aload_n hx hb dX2_doBeat_0 rfl (lv_at hl 0 rfl) ?_
  refine lv_aload_n hx hb dX2_doBeat_1 rfl (lv_at hl 0 rfl) ?_
  refine mf8 X hM dX2_doBeat_2 ?_
  refine mp11 X hM hS (v := mn σ 8) rfl dX2_doBeat_5 (fun H locs hM hS => ?_)
  refine lv_iconst (v := 0) hx hb dX2_doBeat_8 (by decide) ?_
  refine lv_istore_n (lv' := [(1, .int (0)), (0, .ref (mo))]) hx hb dX2_doBeat_9 rfl hl (by decide) rfl (fun ls hl => ?_)
  have loop_10 : ∀ (n i : Nat) (H : Heap) (locs : List Loc) (ls : Array Slot), i + n = mn σ 15 → mH K mo A (m_d1L (sn σ 11 (mn σ 8)) i) G H → va_S (gA K) s.heap H locs → lv_has ls 2 [(1, .int (nI (i))), (0, .ref (mo))] → W p l e ({ frames := 10, cells := 0, slots := 0, locals := 482 } : Room) s m ([.ref (mo)] : List Value).toArray below meth c H locs 0 0 (MQ below (gQ K (fun w G1 => w = (none) ∧ mR K mo A (m_doBeat σ) G1 ∧ gF mT G G1)) ([.ref (mo)] : List Value).toArray s 0 0 (gA K)) (F0 m 10 ls []) := by
    intro n
    induction n with
    | zero =>
      intro i H locs ls hi_10 hM hS hl
      have hi2 : i = mn σ 15 := by omega
      subst hi2
      refine lv_iload_n hx hb dX2_doBeat_10 rfl (lv_at hl 0 rfl) ?_
      refine lv_aload_n hx hb dX2_doBeat_11 rfl (lv_at hl 1 rfl) ?_
      refine mf15 X hM dX2_doBeat_12 ?_
      refine g_topE (z := nI (mn σ 15)) (by simp [mn_m_d1L, mn_sn]) ?_
      refine g_icmp_ge hx hb 52 dX2_doBeat_15 (by decide) (a := mn σ 15) (b := mn σ 15) rfl rfl (by omega) (by omega) (fun c_15 => ?_) (fun c_15 => ?_)
      · skip
        refine lv_iconst (v := 0) hx hb dX2_doBeat_52 (by decide) ?_
        refine lv_istore_n (lv' := [(1, .int (0)), (0, .ref (mo))]) hx hb dX2_doBeat_53 rfl hl (by decide) rfl (fun ls hl => ?_)
        have loop_54 : ∀ (n i : Nat) (H : Heap) (locs : List Loc) (ls : Array Slot), i + n = mn σ 8 → mH K mo A (m_d2L (m_d1L (sn σ 11 (mn σ 8)) (mn σ 15)) i) G H → va_S (gA K) s.heap H locs → lv_has ls 2 [(1, .int (nI (i))), (0, .ref (mo))] → W p l e ({ frames := 10, cells := 0, slots := 0, locals := 482 } : Room) s m ([.ref (mo)] : List Value).toArray below meth c H locs 0 0 (MQ below (gQ K (fun w G1 => w = (none) ∧ mR K mo A (m_doBeat σ) G1 ∧ gF mT G G1)) ([.ref (mo)] : List Value).toArray s 0 0 (gA K)) (F0 m 54 ls []) := by
          intro n
          induction n with
          | zero =>
            intro i H locs ls hi_54 hM hS hl
            have hi2 : i = mn σ 8 := by omega
            subst hi2
            refine lv_iload_n hx hb dX2_doBeat_54 rfl (lv_at hl 0 rfl) ?_
            refine lv_aload_n hx hb dX2_doBeat_55 rfl (lv_at hl 1 rfl) ?_
            refine mf11 X hM dX2_doBeat_56 ?_
            refine g_topE (z := nI (mn σ 8)) (by simp [mn_m_d2L, mn_m_d1L, mn_sn]) ?_
            refine g_icmp_ge hx hb 75 dX2_doBeat_59 (by decide) (a := mn σ 8) (b := mn σ 8) rfl rfl (by omega) (by omega) (fun c_59 => ?_) (fun c_59 => ?_)
            · skip
              refine lv_iconst (v := 0) hx hb dX2_doBeat_75 (by decide) ?_
              refine lv_istore_n (lv' := [(1, .int (0)), (0, .ref (mo))]) hx hb dX2_doBeat_76 rfl hl (by decide) rfl (fun ls hl => ?_)
              have loop_77 : ∀ (n i : Nat) (H : Heap) (locs : List Loc) (ls : Array Slot), i + n = mn σ 5 → mH K mo A (m_d3L (m_d2L (m_d1L (sn σ 11 (mn σ 8)) (mn σ 15)) (mn σ 8)) i) G H → va_S (gA K) s.heap H locs → lv_has ls 2 [(1, .int (nI (i))), (0, .ref (mo))] → W p l e ({ frames := 10, cells := 0, slots := 0, locals := 482 } : Room) s m ([.ref (mo)] : List Value).toArray below meth c H locs 0 0 (MQ below (gQ K (fun w G1 => w = (none) ∧ mR K mo A (m_doBeat σ) G1 ∧ gF mT G G1)) ([.ref (mo)] : List Value).toArray s 0 0 (gA K)) (F0 m 77 ls []) := by
                intro n
                induction n with
                | zero =>
                  intro i H locs ls hi_77 hM hS hl
                  have hi2 : i = mn σ 5 := by omega
                  subst hi2
                  refine lv_iload_n hx hb dX2_doBeat_77 rfl (lv_at hl 0 rfl) ?_
                  refine lv_aload_n hx hb dX2_doBeat_78 rfl (lv_at hl 1 rfl) ?_
                  refine mf5 X hM dX2_doBeat_79 ?_
                  refine g_topE (z := nI (mn σ 5)) (by simp [mn_m_d3L, mn_m_d2L, mn_m_d1L, mn_sn]) ?_
                  refine g_icmp_ge hx hb 96 dX2_doBeat_82 (by decide) (a := mn σ 5) (b := mn σ 5) rfl rfl (by omega) (by omega) (fun c_82 => ?_) (fun c_82 => ?_)
                  · skip
                    refine lv_iconst (v := 0) hx hb dX2_doBeat_96 (by decide) ?_
                    refine lv_istore_n (lv' := [(1, .int (0)), (0, .ref (mo))]) hx hb dX2_doBeat_97 rfl hl (by decide) rfl (fun ls hl => ?_)
                    have loop_98 : ∀ (n i : Nat) (H : Heap) (locs : List Loc) (ls : Array Slot), i + n = mn σ 8 → mH K mo A (m_d4L (m_d3L (m_d2L (m_d1L (sn σ 11 (mn σ 8)) (mn σ 15)) (mn σ 8)) (mn σ 5)) i) G H → va_S (gA K) s.heap H locs → lv_has ls 2 [(1, .int (nI (i))), (0, .ref (mo))] → W p l e ({ frames := 10, cells := 0, slots := 0, locals := 482 } : Room) s m ([.ref (mo)] : List Value).toArray below meth c H locs 0 0 (MQ below (gQ K (fun w G1 => w = (none) ∧ mR K mo A (m_doBeat σ) G1 ∧ gF mT G G1)) ([.ref (mo)] : List Value).toArray s 0 0 (gA K)) (F0 m 98 ls []) := by
                      intro n
                      induction n with
                      | zero =>
                        intro i H locs ls hi_98 hM hS hl
                        have hi2 : i = mn σ 8 := by omega
                        subst hi2
                        refine lv_iload_n hx hb dX2_doBeat_98 rfl (lv_at hl 0 rfl) ?_
                        refine lv_aload_n hx hb dX2_doBeat_99 rfl (lv_at hl 1 rfl) ?_
                        refine mf11 X hM dX2_doBeat_100 ?_
                        refine g_topE (z := nI (mn σ 8)) (by simp [mn_m_d4L, mn_m_d3L, mn_m_d2L, mn_m_d1L, mn_sn]) ?_
                        refine g_icmp_ge hx hb 145 dX2_doBeat_103 (by decide) (a := mn σ 8) (b := mn σ 8) rfl rfl (by omega) (by omega) (fun c_103 => ?_) (fun c_103 => ?_)
                        · skip
                          refine lv_iconst (v := 0) hx hb dX2_doBeat_145 (by decide) ?_
                          refine lv_istore_n (lv' := [(1, .int (0)), (0, .ref (mo))]) hx hb dX2_doBeat_146 rfl hl (by decide) rfl (fun ls hl => ?_)
                          have loop_147 : ∀ (n i : Nat) (H : Heap) (locs : List Loc) (ls : Array Slot), i + n = mn (m_d4L (m_d3L (m_d2L (m_d1L (sn σ 11 (mn σ 8)) (mn σ 15)) (mn σ 8)) (mn σ 5)) (mn σ 8)) 15 → mH K mo A (m_d5L (m_d4L (m_d3L (m_d2L (m_d1L (sn σ 11 (mn σ 8)) (mn σ 15)) (mn σ 8)) (mn σ 5)) (mn σ 8)) i) G H → va_S (gA K) s.heap H locs → lv_has ls 2 [(1, .int (nI (i))), (0, .ref (mo))] → W p l e ({ frames := 10, cells := 0, slots := 0, locals := 482 } : Room) s m ([.ref (mo)] : List Value).toArray below meth c H locs 0 0 (MQ below (gQ K (fun w G1 => w = (none) ∧ mR K mo A (m_doBeat σ) G1 ∧ gF mT G G1)) ([.ref (mo)] : List Value).toArray s 0 0 (gA K)) (F0 m 147 ls []) := by
                            intro n
                            induction n with
                            | zero =>
                              intro i H locs ls hi_147 hM hS hl
                              have hi2 : i = mn (m_d4L (m_d3L (m_d2L (m_d1L (sn σ 11 (mn σ 8)) (mn σ 15)) (mn σ 8)) (mn σ 5)) (mn σ 8)) 15 := by omega
                              subst hi2
                              refine lv_iload_n hx hb dX2_doBeat_147 rfl (lv_at hl 0 rfl) ?_
                              refine lv_aload_n hx hb dX2_doBeat_148 rfl (lv_at hl 1 rfl) ?_
                              refine mf15 X hM dX2_doBeat_149 ?_
                              refine g_topE (z := nI (mn (m_d4L (m_d3L (m_d2L (m_d1L (sn σ 11 (mn σ 8)) (mn σ 15)) (mn σ 8)) (mn σ 5)) (mn σ 8)) 15)) (by simp [mn_m_d5L, mn_m_d4L]) ?_
                              refine g_icmp_ge hx hb 175 dX2_doBeat_152 (by decide) (a := mn (m_d4L (m_d3L (m_d2L (m_d1L (sn σ 11 (mn σ 8)) (mn σ 15)) (mn σ 8)) (mn σ 5)) (mn σ 8)) 15) (b := mn (m_d4L (m_d3L (m_d2L (m_d1L (sn σ 11 (mn σ 8)) (mn σ 15)) (mn σ 8)) (mn σ 5)) (mn σ 8)) 15) rfl rfl (by omega) (by omega) (fun c_152 => ?_) (fun c_152 => ?_)
                              · skip
                                refine lv_aload_n hx hb dX2_doBeat_175 rfl (lv_at hl 1 rfl) ?_
                                refine lv_dup hx hb dX2_doBeat_176 rfl ?_
                                refine mf13 X hM dX2_doBeat_177 ?_
                                refine g_topE (z := nI (mn σ 13)) (by simp [mn_m_d5L, mn_m_d4L, mn_m_d3L, mn_m_d2L, mn_m_d1L, mn_sn]) ?_
                                refine lv_aload_n hx hb dX2_doBeat_180 rfl (lv_at hl 1 rfl) ?_
                                refine mf11 X hM dX2_doBeat_181 ?_
                                refine g_topE (z := nI (mn σ 8)) (by simp [mn_m_d5L, mn_m_d4L, mn_m_d3L, mn_m_d2L, mn_m_d1L, mn_sn]) ?_
                                refine lv_iadd hx hb dX2_doBeat_184 ?_
                                refine g_topN (n_add (a := mn σ 13) (b := mn σ 8) rfl rfl) ?_
                                refine mp13 X hM hS (v := (mn σ 13) + (mn σ 8)) rfl dX2_doBeat_185 (fun H locs hM hS => ?_)
                                refine lv_aload_n hx hb dX2_doBeat_188 rfl (lv_at hl 1 rfl) ?_
                                refine lv_iconst (v := 0) hx hb dX2_doBeat_189 (by decide) ?_
                                refine mp8 X hM hS (v := 0) rfl dX2_doBeat_190 (fun H locs hM hS => ?_)
                                refine lv_aload_n hx hb dX2_doBeat_193 rfl (lv_at hl 1 rfl) ?_
                                refine lv_dup hx hb dX2_doBeat_194 rfl ?_
                                refine mf7 X hM dX2_doBeat_195 ?_
                                refine g_topE (z := nI (mn σ 7)) (by simp [mn_sn, mn_m_d5L, mn_m_d4L, mn_m_d3L, mn_m_d2L, mn_m_d1L]) ?_
                                refine lv_iconst (v := 1) hx hb dX2_doBeat_198 (by decide) ?_
                                refine lv_iadd hx hb dX2_doBeat_199 ?_
                                refine g_topN (n_add (a := mn σ 7) (b := 1) rfl rfl) ?_
                                refine mp7 X hM hS (v := (mn σ 7) + 1) rfl dX2_doBeat_200 (fun H locs hM hS => ?_)
                                exact m_vret X hr hM hS rfl (by rw [m_doBeat_eq]) (Nat.le_refl _) (Nat.le_refl _) dX2_doBeat_203
                              · skip
                                exact absurd c_152 (by omega)
                            | succ n ih_147 =>
                              intro i H locs ls hi_147 hM hS hl
                              refine lv_iload_n hx hb dX2_doBeat_147 rfl (lv_at hl 0 rfl) ?_
                              refine lv_aload_n hx hb dX2_doBeat_148 rfl (lv_at hl 1 rfl) ?_
                              refine mf15 X hM dX2_doBeat_149 ?_
                              refine g_topE (z := nI (mn (m_d4L (m_d3L (m_d2L (m_d1L (sn σ 11 (mn σ 8)) (mn σ 15)) (mn σ 8)) (mn σ 5)) (mn σ 8)) 15)) (by simp [mn_m_d5L, mn_m_d4L]) ?_
                              refine g_icmp_ge hx hb 175 dX2_doBeat_152 (by decide) (a := i) (b := mn (m_d4L (m_d3L (m_d2L (m_d1L (sn σ 11 (mn σ 8)) (mn σ 15)) (mn σ 8)) (mn σ 5)) (mn σ 8)) 15) rfl rfl (by omega) (by omega) (fun c_152 => ?_) (fun c_152 => ?_)
                              · skip
                                exact absurd c_152 (by omega)
                              · skip
                                refine lv_aload_n hx hb dX2_doBeat_155 rfl (lv_at hl 1 rfl) ?_
                                refine mf16 X hM dX2_doBeat_156 ?_
                                refine lv_iload_n hx hb dX2_doBeat_159 rfl (lv_at hl 0 rfl) ?_
                                refine m_ldc X hM 16 40 rfl rfl (by omega) (by decide) dX2_doBeat_160 ?_
                                refine g_ifb_eq hx hb 169 dX2_doBeat_161 (by decide) (fun c_161 => ?_) (fun c_161 => ?_)
                                · skip
                                  refine lv_iinc (v := nI (i + 1)) (lv' := [(1, .int (nI (i + 1))), (0, .ref (mo))]) hx hb dX2_doBeat_169 hl (k := 0) rfl (n_add (a := i) (b := 1) rfl rfl) (by decide) rfl (fun ls hl => ?_)
                                  refine lv_goto (tgt := 147) hx hb dX2_doBeat_172 (by decide) ?_
                                  have e_1 : m_d5L (m_d4L (m_d3L (m_d2L (m_d1L (sn σ 11 (mn σ 8)) (mn σ 15)) (mn σ 8)) (mn σ 5)) (mn σ 8)) (i + 1) = m_d5L (m_d4L (m_d3L (m_d2L (m_d1L (sn σ 11 (mn σ 8)) (mn σ 15)) (mn σ 8)) (mn σ 5)) (mn σ 8)) i := by rw [m_d5L_succ, m_d5]; simp [c_161]
                                  rw [← e_1] at hM
                                  exact ih_147 (i + 1) H locs ls (by omega) hM hS (lv_sub hl [0, 1] rfl)
                                · skip
                                  refine lv_aload_n hx hb dX2_doBeat_164 rfl (lv_at hl 1 rfl) ?_
                                  refine lv_iload_n hx hb dX2_doBeat_165 rfl (lv_at hl 0 rfl) ?_
                                  refine m_call X (met_X2_endBeat l K mo A (m_d5L (m_d4L (m_d3L (m_d2L (m_d1L (sn σ 11 (mn σ 8)) (mn σ 15)) (mn σ 8)) (mn σ 5)) (mn σ 8)) i) (i) (by omega) (by rw [mn_m_d5L]; exact hq6)) gp_X2_endBeat rfl q1539 q1541 qs29 q42 q1542 hM hS hl ⟨Nat.le_of_ble_eq_true rfl, Nat.le_of_ble_eq_true rfl⟩ ⟨Nat.le_refl _, Nat.le_refl _⟩ (rest := []) (Nat.le_of_ble_eq_true rfl) rfl dX2_doBeat_166 (fun H locs hM hS => ?_)
                                  refine W.eq (g2 := F0 m 169 ls []) rfl ?_
                                  refine lv_iinc (v := nI (i + 1)) (lv' := [(1, .int (nI (i + 1))), (0, .ref (mo))]) hx hb dX2_doBeat_169 hl (k := 0) rfl (n_add (a := i) (b := 1) rfl rfl) (by decide) rfl (fun ls hl => ?_)
                                  refine lv_goto (tgt := 147) hx hb dX2_doBeat_172 (by decide) ?_
                                  have e_1 : m_d5L (m_d4L (m_d3L (m_d2L (m_d1L (sn σ 11 (mn σ 8)) (mn σ 15)) (mn σ 8)) (mn σ 5)) (mn σ 8)) (i + 1) = m_endBeat (m_d5L (m_d4L (m_d3L (m_d2L (m_d1L (sn σ 11 (mn σ 8)) (mn σ 15)) (mn σ 8)) (mn σ 5)) (mn σ 8)) i) i := by rw [m_d5L_succ, m_d5]; simp [c_161]
                                  rw [← e_1] at hM
                                  exact ih_147 (i + 1) H locs ls (by omega) hM hS (lv_sub hl [0, 1] rfl)
                          exact loop_147 (mn (m_d4L (m_d3L (m_d2L (m_d1L (sn σ 11 (mn σ 8)) (mn σ 15)) (mn σ 8)) (mn σ 5)) (mn σ 8)) 15) 0 _ _ ls (by omega) hM hS (lv_sub hl [0, 1] rfl)
                        · skip
                          exact absurd c_103 (by omega)
                      | succ n ih_98 =>
                        intro i H locs ls hi_98 hM hS hl
                        have hAt := aV_d4L hA3 i (by rw [h11c]; omega)
                        have hq15 := hAt.2.2.1
                        have hqa : m_alive (m_d4L (m_d3L (m_d2L (m_d1L (sn σ 11 (mn σ 8)) (mn σ 15)) (mn σ 8)) (mn σ 5)) i) ≤ 40 := Nat.le_trans (m_cnt_le _ _) hq15
                        have hq7 := hAt.2.2.2.1
                        have hq11 : mn (m_d4L (m_d3L (m_d2L (m_d1L (sn σ 11 (mn σ 8)) (mn σ 15)) (mn σ 8)) (mn σ 5)) i) 11 = mn σ 8 := by simp [mn_m_d4L, h11c]
                        refine lv_iload_n hx hb dX2_doBeat_98 rfl (lv_at hl 0 rfl) ?_
                        refine lv_aload_n hx hb dX2_doBeat_99 rfl (lv_at hl 1 rfl) ?_
                        refine mf11 X hM dX2_doBeat_100 ?_
                        refine g_topE (z := nI (mn σ 8)) (by simp [mn_m_d4L, mn_m_d3L, mn_m_d2L, mn_m_d1L, mn_sn]) ?_
                        refine g_icmp_ge hx hb 145 dX2_doBeat_103 (by decide) (a := i) (b := mn σ 8) rfl rfl (by omega) (by omega) (fun c_103 => ?_) (fun c_103 => ?_)
                        · skip
                          exact absurd c_103 (by omega)
                        · skip
                          refine lv_aload_n hx hb dX2_doBeat_106 rfl (lv_at hl 1 rfl) ?_
                          refine mf12 X hM dX2_doBeat_107 ?_
                          refine lv_iload_n hx hb dX2_doBeat_110 rfl (lv_at hl 0 rfl) ?_
                          refine m_lda X hM 12 8 rfl rfl (by omega) (by decide) dX2_doBeat_111 ?_
                          refine lv_iconst (v := (-1)) hx hb dX2_doBeat_112 (by decide) ?_
                          refine lv_icmp_ne (tgt := 139) hx hb dX2_doBeat_113 (by decide) (fun c_113 => ?_) (fun c_113 => ?_)
                          · skip
                            refine lv_iinc (v := nI (i + 1)) (lv' := [(1, .int (nI (i + 1))), (0, .ref (mo))]) hx hb dX2_doBeat_139 hl (k := 0) rfl (n_add (a := i) (b := 1) rfl rfl) (by decide) rfl (fun ls hl => ?_)
                            refine lv_goto (tgt := 98) hx hb dX2_doBeat_142 (by decide) ?_
                            have e_1 : m_d4L (m_d3L (m_d2L (m_d1L (sn σ 11 (mn σ 8)) (mn σ 15)) (mn σ 8)) (mn σ 5)) (i + 1) = m_d4L (m_d3L (m_d2L (m_d1L (sn σ 11 (mn σ 8)) (mn σ 15)) (mn σ 8)) (mn σ 5)) i := by rw [m_d4L_succ, m_d4]; try simp [c_113]
                            rw [← e_1] at hM
                            exact ih_98 (i + 1) H locs ls (by omega) hM hS (lv_sub hl [0, 1] rfl)
                          · skip
                            refine lv_aload_n hx hb dX2_doBeat_116 rfl (lv_at hl 1 rfl) ?_
                            refine m_call X (met_X2_aliveNow l K mo A (m_d4L (m_d3L (m_d2L (m_d1L (sn σ 11 (mn σ 8)) (mn σ 15)) (mn σ 8)) (mn σ 5)) i)  (by omega)) gp_X2_aliveNow rfl q1531 q1533 qs27 q42 q1534 hM hS hl ⟨Nat.le_of_ble_eq_true rfl, Nat.le_of_ble_eq_true rfl⟩ ⟨Nat.le_refl _, Nat.le_refl _⟩ (rest := []) (Nat.le_of_ble_eq_true rfl) rfl dX2_doBeat_117 (fun H locs hM hS => ?_)
                            refine W.eq (g2 := F0 m 120 ls [.int (nI (m_alive (m_d4L (m_d3L (m_d2L (m_d1L (sn σ 11 (mn σ 8)) (mn σ 15)) (mn σ 8)) (mn σ 5)) i)))]) rfl ?_
                            refine lv_bipush (v := 6) hx hb dX2_doBeat_120 (by decide) ?_
                            refine g_icmp_ge hx hb 139 dX2_doBeat_122 (by decide) (a := m_alive (m_d4L (m_d3L (m_d2L (m_d1L (sn σ 11 (mn σ 8)) (mn σ 15)) (mn σ 8)) (mn σ 5)) i)) (b := 6) rfl rfl (by omega) (by decide) (fun c_122 => ?_) (fun c_122 => ?_)
                            · skip
                              refine lv_iinc (v := nI (i + 1)) (lv' := [(1, .int (nI (i + 1))), (0, .ref (mo))]) hx hb dX2_doBeat_139 hl (k := 0) rfl (n_add (a := i) (b := 1) rfl rfl) (by decide) rfl (fun ls hl => ?_)
                              refine lv_goto (tgt := 98) hx hb dX2_doBeat_142 (by decide) ?_
                              have e_1 : m_d4L (m_d3L (m_d2L (m_d1L (sn σ 11 (mn σ 8)) (mn σ 15)) (mn σ 8)) (mn σ 5)) (i + 1) = m_d4L (m_d3L (m_d2L (m_d1L (sn σ 11 (mn σ 8)) (mn σ 15)) (mn σ 8)) (mn σ 5)) i := by rw [m_d4L_succ, m_d4]; try simp [c_113, Nat.not_lt.mpr c_122]
                              rw [← e_1] at hM
                              exact ih_98 (i + 1) H locs ls (by omega) hM hS (lv_sub hl [0, 1] rfl)
                            · skip
                              refine lv_aload_n hx hb dX2_doBeat_125 rfl (lv_at hl 1 rfl) ?_
                              refine mf15 X hM dX2_doBeat_126 ?_
                              refine lv_bipush (v := 40) hx hb dX2_doBeat_129 (by decide) ?_
                              refine g_icmp_ge hx hb 139 dX2_doBeat_131 (by decide) (a := mn (m_d4L (m_d3L (m_d2L (m_d1L (sn σ 11 (mn σ 8)) (mn σ 15)) (mn σ 8)) (mn σ 5)) i) 15) (b := 40) rfl rfl (by omega) (by decide) (fun c_131 => ?_) (fun c_131 => ?_)
                              · skip
                                refine lv_iinc (v := nI (i + 1)) (lv' := [(1, .int (nI (i + 1))), (0, .ref (mo))]) hx hb dX2_doBeat_139 hl (k := 0) rfl (n_add (a := i) (b := 1) rfl rfl) (by decide) rfl (fun ls hl => ?_)
                                refine lv_goto (tgt := 98) hx hb dX2_doBeat_142 (by decide) ?_
                                have e_1 : m_d4L (m_d3L (m_d2L (m_d1L (sn σ 11 (mn σ 8)) (mn σ 15)) (mn σ 8)) (mn σ 5)) (i + 1) = m_d4L (m_d3L (m_d2L (m_d1L (sn σ 11 (mn σ 8)) (mn σ 15)) (mn σ 8)) (mn σ 5)) i := by rw [m_d4L_succ, m_d4]; try simp [c_113, c_122, Nat.not_lt.mpr c_131]
                                rw [← e_1] at hM
                                exact ih_98 (i + 1) H locs ls (by omega) hM hS (lv_sub hl [0, 1] rfl)
                              · skip
                                refine lv_aload_n hx hb dX2_doBeat_134 rfl (lv_at hl 1 rfl) ?_
                                refine lv_iload_n hx hb dX2_doBeat_135 rfl (lv_at hl 0 rfl) ?_
                                refine m_call X (met_X2_beginTrack l K mo A (m_d4L (m_d3L (m_d2L (m_d1L (sn σ 11 (mn σ 8)) (mn σ 15)) (mn σ 8)) (mn σ 5)) i) (i) (by omega) (by omega) (by omega) (by have := hAt.2.2.2.2.1 i (by omega); have := hAt.1; omega) (hAt.hv (by omega))) gp_X2_beginTrack rfl q1535 q1537 qs28 q42 q1538 hM hS hl ⟨Nat.le_of_ble_eq_true rfl, Nat.le_of_ble_eq_true rfl⟩ ⟨Nat.le_refl _, Nat.le_refl _⟩ (rest := []) (Nat.le_of_ble_eq_true rfl) rfl dX2_doBeat_136 (fun H locs hM hS => ?_)
                                refine W.eq (g2 := F0 m 139 ls []) rfl ?_
                                refine lv_iinc (v := nI (i + 1)) (lv' := [(1, .int (nI (i + 1))), (0, .ref (mo))]) hx hb dX2_doBeat_139 hl (k := 0) rfl (n_add (a := i) (b := 1) rfl rfl) (by decide) rfl (fun ls hl => ?_)
                                refine lv_goto (tgt := 98) hx hb dX2_doBeat_142 (by decide) ?_
                                have e_1 : m_d4L (m_d3L (m_d2L (m_d1L (sn σ 11 (mn σ 8)) (mn σ 15)) (mn σ 8)) (mn σ 5)) (i + 1) = m_beginTrack (m_d4L (m_d3L (m_d2L (m_d1L (sn σ 11 (mn σ 8)) (mn σ 15)) (mn σ 8)) (mn σ 5)) i) i := by rw [m_d4L_succ, m_d4]; try simp [c_113, c_122, c_131]
                                rw [← e_1] at hM
                                exact ih_98 (i + 1) H locs ls (by omega) hM hS (lv_sub hl [0, 1] rfl)
                    exact loop_98 (mn σ 8) 0 _ _ ls (by omega) hM hS (lv_sub hl [0, 1] rfl)
                  · skip
                    exact absurd c_82 (by omega)
                | succ n ih_77 =>
                  intro i H locs ls hi_77 hM hS hl
                  have hAt := aV_d3L hA2 i
                  refine lv_iload_n hx hb dX2_doBeat_77 rfl (lv_at hl 0 rfl) ?_
                  refine lv_aload_n hx hb dX2_doBeat_78 rfl (lv_at hl 1 rfl) ?_
                  refine mf5 X hM dX2_doBeat_79 ?_
                  refine g_topE (z := nI (mn σ 5)) (by simp [mn_m_d3L, mn_m_d2L, mn_m_d1L, mn_sn]) ?_
                  refine g_icmp_ge hx hb 96 dX2_doBeat_82 (by decide) (a := i) (b := mn σ 5) rfl rfl (by omega) (by omega) (fun c_82 => ?_) (fun c_82 => ?_)
                  · skip
                    exact absurd c_82 (by omega)
                  · skip
                    refine lv_aload_n hx hb dX2_doBeat_85 rfl (lv_at hl 1 rfl) ?_
                    refine lv_iload_n hx hb dX2_doBeat_86 rfl (lv_at hl 0 rfl) ?_
                    refine m_call X (met_X2_assign l K mo A (m_d3L (m_d2L (m_d1L (sn σ 11 (mn σ 8)) (mn σ 15)) (mn σ 8)) i) (i) (by omega) hAt) gp_X2_assign rfl q1495 q1497 qs19 q42 q1498 hM hS hl ⟨Nat.le_of_ble_eq_true rfl, Nat.le_of_ble_eq_true rfl⟩ ⟨Nat.le_refl _, Nat.le_refl _⟩ (rest := []) (Nat.le_of_ble_eq_true rfl) rfl dX2_doBeat_87 (fun H locs hM hS => ?_)
                    refine W.eq (g2 := F0 m 90 ls []) rfl ?_
                    refine lv_iinc (v := nI (i + 1)) (lv' := [(1, .int (nI (i + 1))), (0, .ref (mo))]) hx hb dX2_doBeat_90 hl (k := 0) rfl (n_add (a := i) (b := 1) rfl rfl) (by decide) rfl (fun ls hl => ?_)
                    refine lv_goto (tgt := 77) hx hb dX2_doBeat_93 (by decide) ?_
                    have e_1 : m_d3L (m_d2L (m_d1L (sn σ 11 (mn σ 8)) (mn σ 15)) (mn σ 8)) (i + 1) = m_assign (m_d3L (m_d2L (m_d1L (sn σ 11 (mn σ 8)) (mn σ 15)) (mn σ 8)) i) i := by rw [m_d3L_succ, m_d3]; skip
                    rw [← e_1] at hM
                    exact ih_77 (i + 1) H locs ls (by omega) hM hS (lv_sub hl [0, 1] rfl)
              exact loop_77 (mn σ 5) 0 _ _ ls (by omega) hM hS (lv_sub hl [0, 1] rfl)
            · skip
              exact absurd c_59 (by omega)
          | succ n ih_54 =>
            intro i H locs ls hi_54 hM hS hl
            refine lv_iload_n hx hb dX2_doBeat_54 rfl (lv_at hl 0 rfl) ?_
            refine lv_aload_n hx hb dX2_doBeat_55 rfl (lv_at hl 1 rfl) ?_
            refine mf11 X hM dX2_doBeat_56 ?_
            refine g_topE (z := nI (mn σ 8)) (by simp [mn_m_d2L, mn_m_d1L, mn_sn]) ?_
            refine g_icmp_ge hx hb 75 dX2_doBeat_59 (by decide) (a := i) (b := mn σ 8) rfl rfl (by omega) (by omega) (fun c_59 => ?_) (fun c_59 => ?_)
            · skip
              exact absurd c_59 (by omega)
            · skip
              refine lv_aload_n hx hb dX2_doBeat_62 rfl (lv_at hl 1 rfl) ?_
              refine mf12 X hM dX2_doBeat_63 ?_
              refine lv_iload_n hx hb dX2_doBeat_66 rfl (lv_at hl 0 rfl) ?_
              refine lv_iconst (v := (-1)) hx hb dX2_doBeat_67 (by decide) ?_
              refine m_sta X hM hS 12 8 (fun _ => rfl) rfl (by omega) (by decide) (by decide) dX2_doBeat_68 (fun H locs hM hS => ?_)
              refine lv_iinc (v := nI (i + 1)) (lv' := [(1, .int (nI (i + 1))), (0, .ref (mo))]) hx hb dX2_doBeat_69 hl (k := 0) rfl (n_add (a := i) (b := 1) rfl rfl) (by decide) rfl (fun ls hl => ?_)
              refine lv_goto (tgt := 54) hx hb dX2_doBeat_72 (by decide) ?_
              have e_1 : m_d2L (m_d1L (sn σ 11 (mn σ 8)) (mn σ 15)) (i + 1) = sa (m_d2L (m_d1L (sn σ 11 (mn σ 8)) (mn σ 15)) i) 12 i ((-1)) := by rw [m_d2L_succ, m_d2]; skip
              rw [← e_1] at hM
              exact ih_54 (i + 1) H locs ls (by omega) hM hS (lv_sub hl [0, 1] rfl)
        exact loop_54 (mn σ 8) 0 _ _ ls (by omega) hM hS (lv_sub hl [0, 1] rfl)
      · skip
        exact absurd c_15 (by omega)
    | succ n ih_10 =>
      intro i H locs ls hi_10 hM hS hl
      refine lv_iload_n hx hb dX2_doBeat_10 rfl (lv_at hl 0 rfl) ?_
      refine lv_aload_n hx hb dX2_doBeat_11 rfl (lv_at hl 1 rfl) ?_
      refine mf15 X hM dX2_doBeat_12 ?_
      refine g_topE (z := nI (mn σ 15)) (by simp [mn_m_d1L, mn_sn]) ?_
      refine g_icmp_ge hx hb 52 dX2_doBeat_15 (by decide) (a := i) (b := mn σ 15) rfl rfl (by omega) (by omega) (fun c_15 => ?_) (fun c_15 => ?_)
      · skip
        exact absurd c_15 (by omega)
      · skip
        refine lv_aload_n hx hb dX2_doBeat_18 rfl (lv_at hl 1 rfl) ?_
        refine mf18 X hM dX2_doBeat_19 ?_
        refine lv_iload_n hx hb dX2_doBeat_22 rfl (lv_at hl 0 rfl) ?_
        refine lv_iconst (v := 0) hx hb dX2_doBeat_23 (by decide) ?_
        refine m_stc X hM hS 18 40 (fun _ => rfl) rfl (by omega) (by decide) (by decide) (v := false) rfl dX2_doBeat_24 (fun H locs hM hS => ?_)
        refine lv_aload_n hx hb dX2_doBeat_25 rfl (lv_at hl 1 rfl) ?_
        refine mf19 X hM dX2_doBeat_26 ?_
        refine lv_iload_n hx hb dX2_doBeat_29 rfl (lv_at hl 0 rfl) ?_
        refine lv_iconst (v := 0) hx hb dX2_doBeat_30 (by decide) ?_
        refine m_stc X hM hS 19 40 (fun _ => rfl) rfl (by omega) (by decide) (by decide) (v := false) rfl dX2_doBeat_31 (fun H locs hM hS => ?_)
        refine lv_aload_n hx hb dX2_doBeat_32 rfl (lv_at hl 1 rfl) ?_
        refine mf16 X hM dX2_doBeat_33 ?_
        refine lv_iload_n hx hb dX2_doBeat_36 rfl (lv_at hl 0 rfl) ?_
        refine m_ldc X hM 16 40 rfl rfl (by omega) (by decide) dX2_doBeat_37 ?_
        refine g_topE (z := gb (mc σ 16 i)) (by simp [mc_sc, mc_m_d1L, mc_sn]) ?_
        refine g_ifb_eq hx hb 46 dX2_doBeat_38 (by decide) (fun c_38 => ?_) (fun c_38 => ?_)
        · skip
          refine lv_iinc (v := nI (i + 1)) (lv' := [(1, .int (nI (i + 1))), (0, .ref (mo))]) hx hb dX2_doBeat_46 hl (k := 0) rfl (n_add (a := i) (b := 1) rfl rfl) (by decide) rfl (fun ls hl => ?_)
          refine lv_goto (tgt := 10) hx hb dX2_doBeat_49 (by decide) ?_
          have e_1 : m_d1L (sn σ 11 (mn σ 8)) (i + 1) = sc (sc (m_d1L (sn σ 11 (mn σ 8)) i) 18 i (false)) 19 i (false) := by rw [m_d1L_succ, m_d1]; simp [mc_sc, mc_m_d1L, mc_sn, c_38]
          rw [← e_1] at hM
          exact ih_10 (i + 1) H locs ls (by omega) hM hS (lv_sub hl [0, 1] rfl)
        · skip
          refine lv_aload_n hx hb dX2_doBeat_41 rfl (lv_at hl 1 rfl) ?_
          refine lv_iload_n hx hb dX2_doBeat_42 rfl (lv_at hl 0 rfl) ?_
          refine m_call X (met_X2_foretell l K mo A (sc (sc (m_d1L (sn σ 11 (mn σ 8)) i) 18 i (false)) 19 i (false)) (i) (by omega) (by simp only [mn_sc, mn_m_d1L]; simp [mn_sn]; omega)) gp_X2_foretell rfl q1474 q1476 qs17 q42 q1477 hM hS hl ⟨Nat.le_of_ble_eq_true rfl, Nat.le_of_ble_eq_true rfl⟩ ⟨Nat.le_refl _, Nat.le_refl _⟩ (rest := []) (Nat.le_of_ble_eq_true rfl) rfl dX2_doBeat_43 (fun H locs hM hS => ?_)
          refine W.eq (g2 := F0 m 46 ls []) rfl ?_
          refine lv_iinc (v := nI (i + 1)) (lv' := [(1, .int (nI (i + 1))), (0, .ref (mo))]) hx hb dX2_doBeat_46 hl (k := 0) rfl (n_add (a := i) (b := 1) rfl rfl) (by decide) rfl (fun ls hl => ?_)
          refine lv_goto (tgt := 10) hx hb dX2_doBeat_49 (by decide) ?_
          have e_1 : m_d1L (sn σ 11 (mn σ 8)) (i + 1) = m_foretell (sc (sc (m_d1L (sn σ 11 (mn σ 8)) i) 18 i (false)) 19 i (false)) i := by rw [m_d1L_succ, m_d1]; simp [mc_sc, mc_m_d1L, mc_sn, c_38]
          rw [← e_1] at hM
          exact ih_10 (i + 1) H locs ls (by omega) hM hS (lv_sub hl [0, 1] rfl)
  exact loop_10 (mn σ 15) 0 _ _ ls (by omega) hM hS (lv_sub hl [0, 1] rfl)
set_option maxHeartbeats 4000000 in
set_option maxRecDepth 100000 in
/-- beat -/
theorem met_X2_beat (l : Launch) (K : gK) (mo : Nat) (A : mA) (σ : mS) (hJ : jV σ) : mMet l K mo A yX2_beat cX2_beat 1 (some .int) 11 519 [] σ (some (.int (if mn σ 7 < 64 then nI (m_alive (m_beat σ)) else 0))) (m_beat σ) := by
  intro G hR0
  refine gMet.of (by decide) (Nat.le_of_ble_eq_true rfl) (fun p e s m below meth c ls hx hb X hr hin hG hS hl => ?_)
  have X : gC K p s m _ meth c cX2_beat 1 "KalmanQuayModel" := X
  have hM := mPre hR0 hG
  have hl : lv_has ls 1 [(0, .ref (mo))] := hl
  have hq7 := hJ.2.2.2.1
  refine lv_aload_n hx hb dX2_beat_0 rfl (lv_at hl 0 rfl) ?_
  refine lv_aload_n hx hb dX2_beat_1 rfl (lv_at hl 0 rfl) ?_
  refine mf7 X hM dX2_beat_2 ?_
  refine lv_bipush (v := 64) hx hb dX2_beat_5 (by decide) ?_
  refine g_icmp_ge hx hb 14 dX2_beat_7 (by decide) (a := mn σ 7) (b := 64) rfl rfl (by omega) (by decide) (fun c_7 => ?_) (fun c_7 => ?_)
  · skip
    refine lv_iconst (v := 0) hx hb dX2_beat_14 (by decide) ?_
    refine m_call X (met_X2_claimFirst l K mo A σ false ) gp_X2_claimFirst rfl q1435 q1437 qs14 q42 q1438 hM hS hl ⟨Nat.le_of_ble_eq_true rfl, Nat.le_of_ble_eq_true rfl⟩ ⟨Nat.le_refl _, Nat.le_refl _⟩ (rest := []) (Nat.le_of_ble_eq_true rfl) rfl dX2_beat_15 (fun H locs hM hS => ?_)
    refine W.eq (g2 := F0 m 18 ls [.int (0)]) rfl ?_
    refine g_ifn_ne hx hb 23 dX2_beat_18 (by decide) (a := 0) rfl (by decide) (fun c_18 => ?_) (fun c_18 => ?_)
    · exact absurd c_18 (by decide)
    · skip
      refine lv_iconst (v := 0) hx hb dX2_beat_21 (by decide) ?_
      exact m_iret X hr hM hS (by rw [if_neg (by omega)]) (by rw [m_beat, if_neg (by omega)]) (Nat.le_refl _) (Nat.le_refl _) dX2_beat_22
  · skip
    refine lv_iconst (v := 1) hx hb dX2_beat_10 (by decide) ?_
    refine lv_goto (tgt := 15) hx hb dX2_beat_11 (by decide) ?_
    refine m_call X (met_X2_claimFirst l K mo A σ true ) gp_X2_claimFirst rfl q1435 q1437 qs14 q42 q1438 hM hS hl ⟨Nat.le_of_ble_eq_true rfl, Nat.le_of_ble_eq_true rfl⟩ ⟨Nat.le_refl _, Nat.le_refl _⟩ (rest := []) (Nat.le_of_ble_eq_true rfl) rfl dX2_beat_15 (fun H locs hM hS => ?_)
    refine W.eq (g2 := F0 m 18 ls [.int (1)]) rfl ?_
    refine g_ifn_ne hx hb 23 dX2_beat_18 (by decide) (a := 1) rfl (by decide) (fun c_18 => ?_) (fun c_18 => ?_)
    · skip
      refine lv_aload_n hx hb dX2_beat_23 rfl (lv_at hl 0 rfl) ?_
      refine m_call X (met_X2_doBeat l K mo A (m_first σ true)  ((hJ.first true).toA0 (by rw [mn_m_first _ _ _ (by decide)]; exact c_7))) gp_X2_doBeat rfl q1470 q1472 qs16 q42 q1473 hM hS hl ⟨Nat.le_of_ble_eq_true rfl, Nat.le_of_ble_eq_true rfl⟩ ⟨Nat.le_refl _, Nat.le_refl _⟩ (rest := []) (Nat.le_of_ble_eq_true rfl) rfl dX2_beat_24 (fun H locs hM hS => ?_)
      refine W.eq (g2 := F0 m 27 ls []) rfl ?_
      refine lv_aload_n hx hb dX2_beat_27 rfl (lv_at hl 0 rfl) ?_
      refine m_call X (met_X2_aliveNow l K mo A (m_doBeat (m_first σ true))  (alive_doBeat ((hJ.first true).toA0 (by rw [mn_m_first _ _ _ (by decide)]; exact c_7))).1) gp_X2_aliveNow rfl q1531 q1533 qs27 q42 q1534 hM hS hl ⟨Nat.le_of_ble_eq_true rfl, Nat.le_of_ble_eq_true rfl⟩ ⟨Nat.le_refl _, Nat.le_refl _⟩ (rest := []) (Nat.le_of_ble_eq_true rfl) rfl dX2_beat_28 (fun H locs hM hS => ?_)
      refine W.eq (g2 := F0 m 31 ls [.int (nI (m_alive (m_doBeat (m_first σ true))))]) rfl ?_
      exact m_iret X hr hM hS (by rw [if_pos c_7, m_beat, if_pos c_7]) (by rw [m_beat, if_pos c_7]) (Nat.le_refl _) (Nat.le_refl _) dX2_beat_31
    · exact absurd c_18 (by decide)
set_option maxHeartbeats 4000000 in
set_option maxRecDepth 100000 in
/-- beats -/
theorem met_X2_beats (l : Launch) (K : gK) (mo : Nat) (A : mA) (σ : mS) (nb : Int32) (hJ : jV σ) : mMet l K mo A yX2_beats cX2_beats 3 (some .int) 11 519 [.int (nb)] σ (some (.int (if m_in nb 1 10 = true ∧ nI (mn σ 7) + nb ≤ 64 then nI (m_alive (m_beats σ nb)) else 0))) (m_beats σ nb) := by
  intro G hR0
  refine gMet.of (by decide) (Nat.le_of_ble_eq_true rfl) (fun p e s m below meth c ls hx hb X hr hin hG hS hl => ?_)
  have X : gC K p s m _ meth c cX2_beats 3 "KalmanQuayModel" := X
  have hM := mPre hR0 hG
  have hl : lv_has ls 3 [(0, .ref (mo)), (1, .int (nb))] := hl
  have hq7 := hJ.2.2.2.1
  refine lv_aload_n hx hb dX2_beats_0 rfl (lv_at hl 0 rfl) ?_
  refine lv_iload_n hx hb dX2_beats_1 rfl (lv_at hl 1 rfl) ?_
  refine lv_iconst (v := 1) hx hb dX2_beats_2 (by decide) ?_
  refine lv_bipush (v := 10) hx hb dX2_beats_3 (by decide) ?_
  refine m_callP X (met_X2_in l K (nb) (1) (10) ) gp_X2_in rfl q1432 q1433 q42 q1434 hM hS hl ⟨Nat.le_of_ble_eq_true rfl, Nat.le_of_ble_eq_true rfl⟩ ⟨Nat.le_refl _, Nat.le_refl _⟩ (rest := [.ref (mo)]) (Nat.le_of_ble_eq_true rfl) rfl dX2_beats_5 (fun H locs hM hS => ?_)
  refine W.eq (g2 := F0 m 8 ls [.int (gb (m_in nb 1 10)), .ref (mo)]) rfl ?_
  refine m_call X (met_X2_claimFirst l K mo A σ (m_in nb 1 10) ) gp_X2_claimFirst rfl q1435 q1437 qs14 q42 q1438 hM hS hl ⟨Nat.le_of_ble_eq_true rfl, Nat.le_of_ble_eq_true rfl⟩ ⟨Nat.le_refl _, Nat.le_refl _⟩ (rest := []) (Nat.le_of_ble_eq_true rfl) rfl dX2_beats_8 (fun H locs hM hS => ?_)
  refine W.eq (g2 := F0 m 11 ls [.int (gb (m_in nb 1 10))]) rfl ?_
  refine g_ifb_eq hx hb 38 dX2_beats_11 (by decide) (fun c_11 => ?_) (fun c_11 => ?_)
  · skip
    rw [c_11] at hM
    refine lv_iconst (v := 0) hx hb dX2_beats_38 (by decide) ?_
    exact m_iret X hr hM hS (by rw [if_neg (fun q => absurd (c_11.symm.trans q.1) (by decide))]) (by rw [m_beats, if_neg (by rw [c_11]; decide)]) (Nat.le_refl _) (Nat.le_refl _) dX2_beats_39
  · skip
    rw [c_11] at hM
    refine lv_aload_n hx hb dX2_beats_14 rfl (lv_at hl 0 rfl) ?_
    refine lv_aload_n hx hb dX2_beats_15 rfl (lv_at hl 0 rfl) ?_
    refine mf7 X hM dX2_beats_16 ?_
    refine g_topE (z := nI (mn σ 7)) (by simp [mn_m_first]) ?_
    refine lv_iload_n hx hb dX2_beats_19 rfl (lv_at hl 1 rfl) ?_
    refine lv_iadd hx hb dX2_beats_20 ?_
    refine lv_bipush (v := 64) hx hb dX2_beats_21 (by decide) ?_
    refine lv_icmp_gt (tgt := 30) hx hb dX2_beats_23 (by decide) (fun c_23 => ?_) (fun c_23 => ?_)
    · skip
      refine lv_iconst (v := 0) hx hb dX2_beats_30 (by decide) ?_
      refine lv_iconst (v := 2) hx hb dX2_beats_31 (by decide) ?_
      refine m_call X (met_X2_claim l K mo A (m_first σ true) false 2 ) gp_X2_claim rfl q1439 q1441 qs15 q42 q1442 hM hS hl ⟨Nat.le_of_ble_eq_true rfl, Nat.le_of_ble_eq_true rfl⟩ ⟨Nat.le_refl _, Nat.le_refl _⟩ (rest := []) (Nat.le_of_ble_eq_true rfl) rfl dX2_beats_32 (fun H locs hM hS => ?_)
      refine W.eq (g2 := F0 m 35 ls [.int (0)]) rfl ?_
      refine g_ifn_ne hx hb 40 dX2_beats_35 (by decide) (a := 0) rfl (by decide) (fun c_35 => ?_) (fun c_35 => ?_)
      · exact absurd c_35 (by decide)
      · skip
        refine lv_iconst (v := 0) hx hb dX2_beats_38 (by decide) ?_
        exact m_iret X hr hM hS (by rw [if_neg (fun q => absurd q.2 (Int32.not_le.mpr c_23))]) (by rw [m_beats, if_pos c_11, if_neg (Int32.not_le.mpr c_23)]) (Nat.le_refl _) (Nat.le_refl _) dX2_beats_39
    · skip
      obtain ⟨hn1, hn2, hn3⟩ := bts_le hJ.2.2.2.1 c_11 (Int32.not_lt.mp c_23)
      rw [hn1] at hl
      have e7 : mn (m_first σ true) 7 = mn σ 7 := mn_m_first _ _ _ (by decide)
      refine lv_iconst (v := 1) hx hb dX2_beats_26 (by decide) ?_
      refine lv_goto (tgt := 31) hx hb dX2_beats_27 (by decide) ?_
      refine lv_iconst (v := 2) hx hb dX2_beats_31 (by decide) ?_
      refine m_call X (met_X2_claim l K mo A (m_first σ true) true 2 ) gp_X2_claim rfl q1439 q1441 qs15 q42 q1442 hM hS hl ⟨Nat.le_of_ble_eq_true rfl, Nat.le_of_ble_eq_true rfl⟩ ⟨Nat.le_refl _, Nat.le_refl _⟩ (rest := []) (Nat.le_of_ble_eq_true rfl) rfl dX2_beats_32 (fun H locs hM hS => ?_)
      refine W.eq (g2 := F0 m 35 ls [.int (1)]) rfl ?_
      refine g_ifn_ne hx hb 40 dX2_beats_35 (by decide) (a := 1) rfl (by decide) (fun c_35 => ?_) (fun c_35 => ?_)
      · skip
        have hM : mH K mo A (m_first σ true) G H := hM
        refine lv_iconst (v := 0) hx hb dX2_beats_40 (by decide) ?_
        refine lv_istore_n (lv' := [(2, .int (0)), (0, .ref (mo)), (1, .int (nI (nb.toNatClampNeg)))]) hx hb dX2_beats_41 rfl hl (by decide) rfl (fun ls hl => ?_)
        have loop_42 : ∀ (n i : Nat) (H : Heap) (locs : List Loc) (ls : Array Slot), i + n = nb.toNatClampNeg → mH K mo A (m_btL (m_first σ true) i) G H → va_S (gA K) s.heap H locs → lv_has ls 3 [(2, .int (nI (i))), (0, .ref (mo)), (1, .int (nI (nb.toNatClampNeg)))] → W p l e ({ frames := 11, cells := 0, slots := 0, locals := 519 } : Room) s m ([.ref (mo), .int (nb)] : List Value).toArray below meth c H locs 0 0 (MQ below (gQ K (fun w G1 => w = (some (.int (if m_in nb 1 10 = true ∧ nI (mn σ 7) + nb ≤ 64 then nI (m_alive (m_beats σ nb)) else 0))) ∧ mR K mo A (m_beats σ nb) G1 ∧ gF mT G G1)) ([.ref (mo), .int (nb)] : List Value).toArray s 0 0 (gA K)) (F0 m 42 ls []) := by
          intro n
          induction n with
          | zero =>
            intro i H locs ls hi_42 hM hS hl
            obtain ⟨hb1, hb2⟩ := jV_btL (hJ.first true) i (by omega)
            have hi2 : i = nb.toNatClampNeg := by omega
            subst hi2
            refine lv_iload_n hx hb dX2_beats_42 rfl (lv_at hl 0 rfl) ?_
            refine lv_iload_n hx hb dX2_beats_43 rfl (lv_at hl 2 rfl) ?_
            refine g_icmp_ge hx hb 57 dX2_beats_44 (by decide) (a := nb.toNatClampNeg) (b := nb.toNatClampNeg) rfl rfl (by omega) (by omega) (fun c_44 => ?_) (fun c_44 => ?_)
            · skip
              refine lv_aload_n hx hb dX2_beats_57 rfl (lv_at hl 1 rfl) ?_
              refine m_call X (met_X2_aliveNow l K mo A (m_btL (m_first σ true) nb.toNatClampNeg)  hb1.2.2.1) gp_X2_aliveNow rfl q1531 q1533 qs27 q42 q1534 hM hS hl ⟨Nat.le_of_ble_eq_true rfl, Nat.le_of_ble_eq_true rfl⟩ ⟨Nat.le_refl _, Nat.le_refl _⟩ (rest := []) (Nat.le_of_ble_eq_true rfl) rfl dX2_beats_58 (fun H locs hM hS => ?_)
              refine W.eq (g2 := F0 m 61 ls [.int (nI (m_alive (m_btL (m_first σ true) nb.toNatClampNeg)))]) rfl ?_
              exact m_iret X hr hM hS (by rw [if_pos ⟨c_11, Int32.not_lt.mp c_23⟩, m_beats, if_pos c_11, if_pos (Int32.not_lt.mp c_23)]; rfl) (by rw [m_beats, if_pos c_11, if_pos (Int32.not_lt.mp c_23)]; rfl) (Nat.le_refl _) (Nat.le_refl _) dX2_beats_61
            · skip
              exact absurd c_44 (by omega)
          | succ n ih_42 =>
            intro i H locs ls hi_42 hM hS hl
            obtain ⟨hb1, hb2⟩ := jV_btL (hJ.first true) i (by omega)
            refine lv_iload_n hx hb dX2_beats_42 rfl (lv_at hl 0 rfl) ?_
            refine lv_iload_n hx hb dX2_beats_43 rfl (lv_at hl 2 rfl) ?_
            refine g_icmp_ge hx hb 57 dX2_beats_44 (by decide) (a := i) (b := nb.toNatClampNeg) rfl rfl (by omega) (by omega) (fun c_44 => ?_) (fun c_44 => ?_)
            · skip
              exact absurd c_44 (by omega)
            · skip
              refine lv_aload_n hx hb dX2_beats_47 rfl (lv_at hl 1 rfl) ?_
              refine m_call X (met_X2_doBeat l K mo A (m_btL (m_first σ true) i)  (hb1.toA0 (by omega))) gp_X2_doBeat rfl q1470 q1472 qs16 q42 q1473 hM hS hl ⟨Nat.le_of_ble_eq_true rfl, Nat.le_of_ble_eq_true rfl⟩ ⟨Nat.le_refl _, Nat.le_refl _⟩ (rest := []) (Nat.le_of_ble_eq_true rfl) rfl dX2_beats_48 (fun H locs hM hS => ?_)
              refine W.eq (g2 := F0 m 51 ls []) rfl ?_
              refine lv_iinc (v := nI (i + 1)) (lv' := [(2, .int (nI (i + 1))), (0, .ref (mo)), (1, .int (nI (nb.toNatClampNeg)))]) hx hb dX2_beats_51 hl (k := 0) rfl (n_add (a := i) (b := 1) rfl rfl) (by decide) rfl (fun ls hl => ?_)
              refine lv_goto (tgt := 42) hx hb dX2_beats_54 (by decide) ?_
              exact ih_42 (i + 1) H locs ls (by omega) hM hS (lv_sub hl [0, 1, 2] rfl)
        exact loop_42 (nb.toNatClampNeg) 0 _ _ ls (by omega) hM hS (lv_sub hl [0, 1, 2] rfl)
      · exact absurd c_35 (by decide)
