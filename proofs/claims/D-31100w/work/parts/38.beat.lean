/-! a beat keeps what it needs -/
set_option maxRecDepth 100000
theorem cand_inv (σ : mS) (s n : Nat) (h0 : mn σ 34 = 0) : mn (m_candL σ s n) 34 ≤ n ∧ ∀ i, i < mn (m_candL σ s n) 34 → mb (m_candL σ s n) 33 i < n ∧ mb σ 9 (mb (m_candL σ s n) 33 i) = s := by
  induction n with
  | zero => exact ⟨by rw [m_candL, m_for, h0]; exact Nat.le_refl _, fun i hi => by rw [m_candL, m_for, h0] at hi; exact absurd hi (Nat.not_lt_zero i)⟩
  | succ n ih =>
    obtain ⟨h1, h2⟩ := ih
    rw [m_candL_succ, m_cand]
    by_cases hc : mb (m_candL σ s n) 9 n = s
    · rw [if_pos hc]
      simp only [mn_sn, mn_sb, mb_sn, mb_sb, if_true, and_self, true_and]
      refine ⟨by omega, fun i hi => ?_⟩
      by_cases hin : i = mn (m_candL σ s n) 34
      · simp only [hin, if_true]
        exact ⟨by omega, by rw [← hc, mb_m_candL _ _ _ _ _ (by decide)]⟩
      · simp only [hin, if_false]
        have := h2 i (by omega)
        exact ⟨by omega, this.2⟩
    · rw [if_neg hc]
      exact ⟨by omega, fun i hi => ⟨by have := (h2 i hi).1; omega, (h2 i hi).2⟩⟩
def skr (σ : mS) (t : Nat) : Bool := mc σ 16 t && !mc σ 18 t
theorem seek_inv (σ : mS) (n : Nat) (h0 : mn σ 36 = 0) : mn (m_seekL σ n) 36 = m_cnt (skr σ) n ∧ ∀ i, i < mn (m_seekL σ n) 36 → mb (m_seekL σ n) 35 i < n ∧ skr σ (mb (m_seekL σ n) 35 i) = true := by
  induction n with
  | zero => exact ⟨h0, fun i hi => by rw [m_seekL, m_for, h0] at hi; exact absurd hi (Nat.not_lt_zero i)⟩
  | succ n ih =>
    obtain ⟨h1, h2⟩ := ih
    rw [m_seekL_succ, m_seek, mc_m_seekL, mc_m_seekL, m_cnt]
    by_cases hc : mc σ 16 n = true ∧ mc σ 18 n = false
    · have hs : skr σ n = true := by rw [skr, hc.1, hc.2]; rfl
      rw [if_pos hc, if_pos hs]
      simp only [mn_sn, mn_sb, mb_sn, mb_sb, if_true, and_self, true_and]
      refine ⟨by omega, fun i hi => ?_⟩
      by_cases hin : i = mn (m_seekL σ n) 36
      · simp only [hin, if_true]
        exact ⟨by omega, hs⟩
      · simp only [hin, if_false]
        have := h2 i (by omega)
        exact ⟨by omega, this.2⟩
    · have hs : ¬ skr σ n = true := fun q => hc (by simpa [skr] using q)
      rw [if_neg hc, if_neg hs]
      exact ⟨h1, fun i hi => ⟨by have := (h2 i hi).1; omega, (h2 i hi).2⟩⟩
theorem lists_c (σ : mS) (s : Nat) : mn (m_lists σ s) 34 = mn (m_candL (sn σ 34 0) s (mn σ 11)) 34 ∧ ∀ i, mb (m_lists σ s) 33 i = mb (m_candL (sn σ 34 0) s (mn σ 11)) 33 i := by
  constructor
  · rw [m_lists_eq, mn_m_seekL _ _ _ (by decide)]; simp [mn_sn]
  · intro i
    rw [m_lists_eq, mb_m_seekL _ _ _ _ (by decide)]; simp [mb_sn]
theorem skr_c (σ : mS) (s n : Nat) (t : Nat) : skr (sn (m_candL (sn σ 34 0) s n) 36 0) t = skr σ t := by simp [skr, mc_sn, mc_m_candL]
theorem lists_s (σ : mS) (s : Nat) : mn (m_lists σ s) 36 = m_cnt (skr σ) (mn σ 15) ∧ ∀ i, i < mn (m_lists σ s) 36 → mb (m_lists σ s) 35 i < mn σ 15 ∧ skr σ (mb (m_lists σ s) 35 i) = true := by
  have h := seek_inv (sn (m_candL (sn σ 34 0) s (mn σ 11)) 36 0) (mn (m_candL (sn σ 34 0) s (mn σ 11)) 15) (by simp [mn_sn])
  rw [← m_lists_eq] at h
  have e : mn (m_candL (sn σ 34 0) s (mn σ 11)) 15 = mn σ 15 := by rw [mn_m_candL _ _ _ _ (by decide)]; simp [mn_sn]
  rw [e] at h
  refine ⟨h.1.trans (m_cnt_eq (fun t _ => skr_c σ s _ t)), fun i hi => ⟨(h.2 i hi).1, ?_⟩⟩
  have := (h.2 i hi).2
  rwa [skr_c] at this
theorem lists_cand (σ : mS) (s : Nat) : mn (m_lists σ s) 34 ≤ mn σ 11 ∧ ∀ i, i < mn (m_lists σ s) 34 → mb (m_lists σ s) 33 i < mn σ 11 ∧ mb σ 9 (mb (m_lists σ s) 33 i) = s := by
  have h := cand_inv (sn σ 34 0) s (mn σ 11) (by simp [mn_sn])
  obtain ⟨e1, e2⟩ := lists_c σ s
  rw [e1]
  refine ⟨h.1, fun i hi => ?_⟩
  rw [e2]
  have := h.2 i hi
  rwa [mb_sn] at this
theorem seek_le {σ : mS} (h : aV σ) : m_cnt (skr σ) (mn σ 15) ≤ 6 := Nat.le_trans (m_cnt_mono (fun t _ q => by simp [skr] at q; exact q.1)) h.2.2.2.2.2.2.2
theorem aV_lists {σ : mS} (h : aV σ) (s : Nat) : aV (m_lists σ s) := aV_keep h (fun x hx => mn_m_lists _ _ _ (by rintro rfl; exact absurd hx (by decide)) (by rintro rfl; exact absurd hx (by decide))) (fun y => mb_m_lists _ _ _ _ (by decide) (by decide)) (fun y => ma_m_lists _ _ _ _) (fun t ht => by rw [mN_m_lists]; exact h.2.2.2.2.2.2.1 t ht) (fun t ht hc => by rwa [mc_m_lists] at hc)
theorem aV_best {σ : mS} (h : aV σ) : aV (m_best σ) := aV_keep h (fun x hx => mn_m_best _ _) (fun y => mb_m_best _ _ _) (fun y => ma_m_best _ _ _ (by decide) (by decide)) (fun t ht => by rw [mN_m_best]; exact h.2.2.2.2.2.2.1 t ht) (fun t ht hc => by rwa [mc_m_best] at hc)
theorem aV_corrL {σ : mS} (h : aV σ) (n : Nat) : aV (m_corrL σ n) := m_for_inv aV m_corr n (fun i τ _ hτ => by unfold m_corr; split; exact hτ; exact aV_correct hτ _ _) σ h n (Nat.le_refl _)
theorem aV_assign {σ : mS} (h : aV σ) (s : Nat) : aV (m_assign σ s) := by
  rw [m_assign_eq]
  exact aV_corrL (aV_best (aV_lists h s)) _
theorem tV_lists {σ : mS} (h : aV σ) (s : Nat) : tV (sl (sz (m_lists σ s) 39 (-1)) 40 0) := by
  have hL : tV (m_lists σ s) := by
    obtain ⟨a1, a2⟩ := lists_s σ s
    obtain ⟨b1, b2⟩ := lists_cand σ s
    have hq : mn σ 11 ≤ 8 := h.2.1
    have h15 : mn σ 15 ≤ 40 := h.2.2.1
    have h5 : mn σ 5 ≤ 4 := h.1
    have e9 : ∀ y, mb (m_lists σ s) 9 y = mb σ 9 y := fun y => mb_m_lists _ _ _ _ (by decide) (by decide)
    refine ⟨by rw [a1]; exact seek_le h, by omega, fun i hi => ?_, fun k hk => by have := (a2 k hk).1; omega, fun k hk i hi => ?_⟩
    · rw [e9]
      have := (b2 i hi).1
      have := h.2.2.2.2.1 _ this
      omega
    · rw [e9]
      have e : ∀ t s', m_spread (m_lists σ s) t s' = m_spread σ t s' := fun t s' => by rw [m_spread, m_spread, mN_m_lists, ma_m_lists]
      rw [e]
      exact h.hz (a2 k hk).1 (b2 i hi).1
  exact tV_keep hL (fun x => by simp [mn_sl, mn_sz]) (fun x y => by simp [mb_sl, mb_sz]) (fun x y => by simp [mN_sl, mN_sz]) (fun y => by simp [ma_sl, ma_sz])
theorem best_rng {σ : mS} (h : aV σ) (s : Nat) {i : Nat} (hi : i < mn (m_lists σ s) 36) (hne : ¬ ma (m_best (m_lists σ s)) 38 i = -1) : ma (m_best (m_lists σ s)) 38 i = nI (ma (m_best (m_lists σ s)) 38 i).toNatClampNeg ∧ (ma (m_best (m_lists σ s)) 38 i).toNatClampNeg < mn σ 11 := by
  have hs := (tV_lists h s).1
  have hb := (try_ok (mn (m_lists σ s) 36) 0 0 0 0 (sl (sz (m_lists σ s) 39 (-1)) 40 0) (by simp [mn_sl, mn_sz]) (Nat.le_refl _) (by omega) (fun j hj => absurd hj (Nat.not_lt_zero j)) (fun h0 => by simp [mz_sl, mz_sz] at h0)).2
  have hb' : bok (m_best (m_lists σ s)) := hb
  have := hb' i (by rw [mn_m_best]; exact hi)
  rcases this with h1 | ⟨j, hj, h1⟩
  · exact absurd h1 hne
  · rw [mn_m_best] at hj
    rw [mb_m_best] at h1
    have h2 := ((lists_cand σ s).2 j hj).1
    have h3 : mn σ 11 ≤ 8 := h.2.1
    rw [h1, nI_clamp (by omega)]
    exact ⟨rfl, h2⟩
theorem aV_begin {σ : mS} (h : aV σ) {i : Nat} (hi : i < mn σ 11) (ha : m_alive σ < 6) (h40 : mn σ 15 < 40) : aV (m_beginTrack σ i) := by
  obtain ⟨a, b, c, d, e, f, g, k⟩ := h
  have e15 : mn (m_beginTrack σ i) 15 = mn σ 15 + 1 := by simp [m_beginTrack, mn_sa, mn_m_note, mn_sj, mn_sb, mn_sc, mn_cF, mn_m_holdAll, mn_sN, mn_sn]
  have eN : ∀ t, t < mn σ 15 + 1 → nok (mN (m_beginTrack σ i) t 2) := by
    intro t ht
    simp only [m_beginTrack, mN_sa, mN_m_note, mN_sj, mN_sb, mN_sc, mN_cF]
    by_cases hn : t = mn σ 15
    · subst hn
      rw [mN_holdAll_2]
      exact nok_hold _
    · rw [mN_holdAll_ne _ _ _ _ hn]
      simp [mN_sN, hn, mN_sn]
      exact g t (by omega)
  have ec : ∀ t, t < mn σ 15 → mc (m_beginTrack σ i) 16 t = mc σ 16 t := by
    intro t ht
    simp [m_beginTrack, mc_sa, mc_m_note, mc_sj, mc_sb, mc_sc, mc_cF, mc_m_holdAll, mc_sN, mc_sn, show ¬ t = mn σ 15 by omega]
  refine ⟨by rw [mn_m_beginTrack _ _ _ (by decide)]; exact a, by rw [mn_m_beginTrack _ _ _ (by decide)]; exact b, by rw [e15]; omega, by rw [mn_m_beginTrack _ _ _ (by decide)]; exact d, fun j hj => ?_, fun s hs => ?_, fun t ht => eN t (by rw [e15] at ht; exact ht), ?_⟩
  · rw [mn_m_beginTrack _ _ _ (by decide)] at hj
    rw [mb_m_beginTrack _ _ _ _ (by decide) (by decide) (by decide) (by decide), mn_m_beginTrack _ _ _ (by decide)]
    exact e j hj
  · rw [mn_m_beginTrack _ _ _ (by decide)] at hs
    rw [ma_m_beginTrack _ _ _ _ (by decide)]
    exact f s hs
  · unfold m_alive at ha ⊢
    rw [e15, m_cnt, m_cnt_eq ec]
    split <;> omega
theorem aV_d4 {σ : mS} (h : aV σ) {i : Nat} (hi : i < mn σ 11) : aV (m_d4 i σ) := by
  unfold m_d4
  split
  · rename_i hc
    exact aV_begin h hi hc.2.1 hc.2.2
  · exact h
theorem aV_d1L {σ : mS} (h : aV σ) (n : Nat) : aV (m_d1L σ n) := m_for_inv aV m_d1 n (fun i τ _ hτ => aV_d1 hτ i) σ h n (Nat.le_refl _)
theorem aV_d2L {σ : mS} (h : aV σ) (n : Nat) : aV (m_d2L σ n) := m_for_inv aV m_d2 n (fun i τ _ hτ => aV_d2 hτ i) σ h n (Nat.le_refl _)
theorem aV_d3L {σ : mS} (h : aV σ) (n : Nat) : aV (m_d3L σ n) := m_for_inv aV m_d3 n (fun i τ _ hτ => aV_assign hτ i) σ h n (Nat.le_refl _)
theorem aV_d4L {σ : mS} (h : aV σ) (n : Nat) (hn : n ≤ mn σ 11) : aV (m_d4L σ n) := by
  have := m_for_inv (fun τ => aV τ ∧ mn τ 11 = mn σ 11) m_d4 n (fun i τ hi hτ => ⟨aV_d4 hτ.1 (by omega), ?_⟩) σ ⟨h, rfl⟩ n (Nat.le_refl _)
  · exact this.1
  · unfold m_d4
    split
    · rw [mn_m_beginTrack _ _ _ (by decide)]; exact hτ.2
    · exact hτ.2
theorem m_doBeat_eq (σ : mS) : m_doBeat σ = sn (sn (sn (m_d5L (m_d4L (m_d3L (m_d2L (m_d1L (sn σ 11 (mn σ 8)) (mn σ 15)) (mn σ 8)) (mn σ 5)) (mn σ 8)) (mn (m_d4L (m_d3L (m_d2L (m_d1L (sn σ 11 (mn σ 8)) (mn σ 15)) (mn σ 8)) (mn σ 5)) (mn σ 8)) 15)) 13 (mn σ 13 + mn σ 8)) 8 0) 7 (mn σ 7 + 1) := by
  have e1 : mn (sn σ 11 (mn σ 8)) 15 = mn σ 15 := by simp [mn_sn]
  have e2 : mn (m_d1L (sn σ 11 (mn σ 8)) (mn σ 15)) 11 = mn σ 8 := by simp [mn_m_d1L, mn_sn]
  have e3 : mn (m_d2L (m_d1L (sn σ 11 (mn σ 8)) (mn σ 15)) (mn σ 8)) 5 = mn σ 5 := by simp [mn_m_d2L, mn_m_d1L, mn_sn]
  have e4 : mn (m_d3L (m_d2L (m_d1L (sn σ 11 (mn σ 8)) (mn σ 15)) (mn σ 8)) (mn σ 5)) 11 = mn σ 8 := by simp [mn_m_d3L, mn_m_d2L, mn_m_d1L, mn_sn]
  have e : m_doBeat σ = (let D1 := m_d1L (sn σ 11 (mn σ 8)) (mn (sn σ 11 (mn σ 8)) 15); let D2 := m_d2L D1 (mn D1 11); let D3 := m_d3L D2 (mn D2 5); let D4 := m_d4L D3 (mn D3 11); let D5 := m_d5L D4 (mn D4 15); let D6 := sn D5 13 (mn D5 13 + mn D5 11); let D7 := sn D6 8 0; sn D7 7 (mn D7 7 + 1)) := rfl
  rw [e]
  simp only [e1, e2, e3, e4]
  simp [mn_sn, mn_m_d5L, mn_m_d4L, mn_m_d3L, mn_m_d2L, mn_m_d1L]
theorem aV_d5L {σ : mS} (h : aV σ) (n : Nat) (hn : n ≤ mn σ 15) : (∀ t, mc (m_d5L σ n) 16 t = true → mc σ 16 t = true) := by
  induction n with
  | zero => exact fun t h => h
  | succ n ih =>
    intro t ht
    have h1 := ih (by omega)
    rw [m_d5L_succ, m_d5] at ht
    split at ht
    · rename_i hc
      by_cases htn : t = n
      · subst htn
        exact h1 _ hc
      · refine h1 t ?_
        have : mc (m_endBeat (m_d5L σ n) n) 16 t = mc (m_d5L σ n) 16 t := by unfold m_endBeat m_endAge; dsimp only; split <;> simp [mc_sc, mc_sb, mc_cB, htn]
        rwa [this] at ht
    · exact h1 t ht
theorem alive_doBeat {σ : mS} (h : aV (sn σ 11 (mn σ 8))) : mn (m_doBeat σ) 15 ≤ 40 ∧ m_alive (m_doBeat σ) ≤ 6 := by
  have hA3 := aV_d3L (aV_d2L (aV_d1L h (mn σ 15)) (mn σ 8)) (mn σ 5)
  have h11c : mn (m_d3L (m_d2L (m_d1L (sn σ 11 (mn σ 8)) (mn σ 15)) (mn σ 8)) (mn σ 5)) 11 = mn σ 8 := by simp [mn_m_d3L, mn_m_d2L, mn_m_d1L, mn_sn]
  have hA4 := aV_d4L hA3 (mn σ 8) (by rw [h11c]; exact Nat.le_refl _)
  have e15 : mn (m_doBeat σ) 15 = mn (m_d4L (m_d3L (m_d2L (m_d1L (sn σ 11 (mn σ 8)) (mn σ 15)) (mn σ 8)) (mn σ 5)) (mn σ 8)) 15 := by rw [m_doBeat_eq]; simp [mn_sn, mn_m_d5L]
  refine ⟨by rw [e15]; exact hA4.2.2.1, ?_⟩
  unfold m_alive
  rw [e15]
  refine Nat.le_trans (m_cnt_mono (fun t _ ht => ?_)) hA4.2.2.2.2.2.2.2
  rw [m_doBeat_eq] at ht
  simp only [mc_sn] at ht
  exact aV_d5L hA4 _ (Nat.le_refl _) t ht
