/-! what holds of the reference between two calls -/
set_option maxRecDepth 100000
/-- a track's sums: how many hits, and bounds of the weights' sum -/
def hok (σ : mS) (k t : Nat) : Prop := 1 ≤ mb σ 24 t ∧ mb σ 24 t ≤ k ∧ (mb σ 24 t : Int) ≤ (mj σ 28 t).toInt ∧ (mj σ 28 t).toInt ≤ 256 * (mb σ 24 t : Int)
theorem hok_up {σ : mS} {k k1 t : Nat} (h : hok σ k t) (hk : k ≤ k1) : hok σ k1 t := ⟨h.1, by have := h.2.1; omega, h.2.2⟩
theorem hok_eq {σ τ : mS} {k t : Nat} (h : hok σ k t) (h1 : mb τ 24 t = mb σ 24 t) (h2 : mj τ 28 t = mj σ 28 t) : hok τ k t := by
  unfold hok
  rw [h1, h2]
  exact h
theorem w_rng {v : Int32} (h : vok v) : 1 ≤ (l_max 1 (256 / v.toInt64)).toInt ∧ (l_max 1 (256 / v.toInt64)).toInt ≤ 256 := by
  have b1 := Int32.le_iff_toInt_le.mp h.1
  have b2 := Int32.le_iff_toInt_le.mp h.2
  have e3 : (1 : Int32).toInt = 1 := rfl
  have e4 : (65536 : Int32).toInt = 65536 := rfl
  rw [e3] at b1
  rw [e4] at b2
  have e1 : (1 : Int64).toInt = 1 := rfl
  have e5 : (256 : Int64).toInt = 256 := rfl
  have hd : (256 / v.toInt64).toInt = 256 / v.toInt := by
    have hq : (256 : Int).tdiv v.toInt = 256 / v.toInt := Int.tdiv_eq_ediv_of_nonneg (by omega)
    have h0 : 0 ≤ (256 : Int) / v.toInt := Int.ediv_nonneg (by omega) (by omega)
    have h1 : (256 : Int) / v.toInt ≤ 256 := Int.ediv_le_self _ (by omega)
    rw [Int64.toInt_div, e5, Int32.toInt_toInt64, hq, Int.bmod_eq_of_le (by omega) (by omega)]
  have h0 : 0 ≤ (256 : Int) / v.toInt := Int.ediv_nonneg (by omega) (by omega)
  have h1 : (256 : Int) / v.toInt ≤ 256 := Int.ediv_le_self _ (by omega)
  unfold l_max
  split
  · rw [e1]; omega
  · rename_i hc
    have := Int64.lt_iff_toInt_lt (x := 256 / v.toInt64) (y := 1)
    rw [hd, e1] at this
    rw [hd]
    have : ¬ (256 / v.toInt < 1) := fun q => hc (this.mpr q)
    omega
theorem hok_note {σ : mS} {k t h x : Nat} (hk : k ≤ 100000) (hv : vok (ma σ 6 (mb σ 9 h))) (hx : hok σ k x) : hok (m_note σ t h) (k + 1) x := by
  by_cases hxt : x = t
  · subst hxt
    have hw := w_rng hv
    obtain ⟨a, b, c, d⟩ := hx
    have e1 : mb (m_note σ x h) 24 x = mb σ 24 x + 1 := by simp [m_note, mb_sj, mb_sb]
    have e2 : mj (m_note σ x h) 28 x = mj σ 28 x + m_w σ h := by simp [m_note, mj_sj, mj_sb]
    have e3 : (mj σ 28 x + m_w σ h).toInt = (mj σ 28 x).toInt + (m_w σ h).toInt := by
      unfold m_w
      rw [Int64.toInt_add, Int.bmod_eq_of_le (by omega) (by omega)]
    unfold m_w at e3
    refine ⟨by rw [e1]; omega, by rw [e1]; omega, ?_, ?_⟩
    · rw [e1, e2]; unfold m_w; rw [e3]; omega
    · rw [e1, e2]; unfold m_w; rw [e3]; omega
  · exact hok_eq (hok_up hx (by omega)) (by simp [m_note, mb_sj, mb_sb, hxt]) (by simp [m_note, mj_sj, mj_sb, hxt])
theorem hok_correct {σ : mS} {k t h x : Nat} (hk : k ≤ 100000) (hv : vok (ma σ 6 (mb σ 9 h))) (hx : hok σ k x) : hok (m_correct σ t h) (k + 1) x := by
  simp only [m_correct]
  refine hok_note hk ?_ (hok_eq hx ?_ ?_)
  · simpa [ma_sn, ma_sa, ma_sc, ma_m_holdAll, ma_sN, mb_sn, mb_sa, mb_sc, mb_m_holdAll, mb_sN] using hv
  · simp [mb_sn, mb_sa, mb_sc, mb_m_holdAll, mb_sN]
  · simp [mj_sn, mj_sa, mj_sc, mj_m_holdAll, mj_sN]
/-- the weights are in range at an assignment's end -/
theorem corr_hok {σ : mS} (hA : aV σ) (s k : Nat) (hk : k ≤ 90000) (h : ∀ t, t < mn σ 15 → hok σ k t) : ∀ n, n ≤ mn (m_lists σ s) 36 → (∀ t, t < mn σ 15 → hok (m_corrL (m_best (m_lists σ s)) n) (k + n) t) ∧ mn (m_corrL (m_best (m_lists σ s)) n) 14 ≤ mn σ 14 + n := by
  have h36 := (tV_lists hA s).1
  simp only [mn_sl, mn_sz] at h36
  intro n
  induction n with
  | zero =>
    intro _
    constructor
    · intro t ht
      refine hok_eq (h t ht) ?_ ?_
      · show mb (m_best (m_lists σ s)) 24 t = _
        rw [mb_m_best, mb_m_lists _ _ _ _ (by decide) (by decide)]
      · show mj (m_best (m_lists σ s)) 28 t = _
        rw [mj_m_best, mj_m_lists]
    · show mn (m_best (m_lists σ s)) 14 ≤ _
      rw [mn_m_best, mn_m_lists _ _ _ (by decide) (by decide)]
      omega
  | succ n ih =>
    intro hn
    obtain ⟨i1, i2⟩ := ih (by omega)
    rw [m_corrL_succ, m_corr]
    split
    · exact ⟨fun t ht => hok_up (i1 t ht) (by omega), by omega⟩
    · rename_i hne
      rw [ma_m_corrL _ _ _ _ (by decide)] at hne ⊢
      have hb := best_rng hA s (i := n) (by omega) hne
      have hAt := aV_corrL (aV_best (aV_lists hA s)) n
      have e11 : mn (m_corrL (m_best (m_lists σ s)) n) 11 = mn σ 11 := by rw [mn_m_corrL _ _ _ (by decide), mn_m_best, mn_m_lists _ _ _ (by decide) (by decide)]
      refine ⟨fun t ht => ?_, ?_⟩
      · exact hok_correct (k := k + n) (by omega) (hAt.2.2.2.2.2.1 _ (hAt.2.2.2.2.1 _ (by rw [e11]; exact hb.2))) (i1 t ht)
      · have : ∀ τ t h, mn (m_correct τ t h) 14 = mn τ 14 + 1 := fun τ t h => by simp [m_correct, mn_m_note, mn_sn, mn_sa, mn_sc, mn_m_holdAll, mn_sN]
        rw [this]
        omega
theorem assign_hok {σ : mS} (hA : aV σ) (s k : Nat) (hk : k ≤ 90000) (h : ∀ t, t < mn σ 15 → hok σ k t) : (∀ t, t < mn σ 15 → hok (m_assign σ s) (k + 6) t) ∧ mn (m_assign σ s) 14 ≤ mn σ 14 + 6 := by
  have h36 := (tV_lists hA s).1
  simp only [mn_sl, mn_sz] at h36
  have := corr_hok hA s k hk h _ (Nat.le_refl _)
  rw [m_assign_eq, mn_m_best]
  exact ⟨fun t ht => hok_up (this.1 t ht) (by omega), by have := this.2; omega⟩
theorem d3_hok {σ : mS} (hA : aV σ) (k : Nat) (hk : k ≤ 50000) (h : ∀ t, t < mn σ 15 → hok σ k t) : ∀ n, n ≤ 4 → (∀ t, t < mn σ 15 → hok (m_d3L σ n) (k + 6 * n) t) ∧ mn (m_d3L σ n) 14 ≤ mn σ 14 + 6 * n := by
  intro n
  induction n with
  | zero => exact fun _ => ⟨h, Nat.le_refl _⟩
  | succ n ih =>
    intro hn
    obtain ⟨i1, i2⟩ := ih (by omega)
    rw [m_d3L_succ, m_d3]
    have e15 : mn (m_d3L σ n) 15 = mn σ 15 := mn_m_d3L _ _ _ (by decide) (by decide) (by decide)
    have := assign_hok (aV_d3L hA n) n (k + 6 * n) (by omega) (fun t ht => i1 t (by rw [e15] at ht; exact ht))
    rw [e15] at this
    exact ⟨fun t ht => hok_up (this.1 t ht) (by omega), by have := this.2; omega⟩
/-- a track begins in time, and ends in time or lives -/
def eok (σ : mS) (t : Nat) : Prop := mb σ 20 t ≤ mn σ 7 ∧ (mc σ 16 t = true ∨ mb σ 20 t ≤ mb σ 21 t ∧ mb σ 21 t < mn σ 7)
theorem eok_eq {σ τ : mS} {t : Nat} (h : eok σ t) (h7 : mn τ 7 = mn σ 7) (h1 : mb τ 20 t = mb σ 20 t) (h2 : mb τ 21 t = mb σ 21 t) (h3 : mc τ 16 t = mc σ 16 t) : eok τ t := by
  unfold eok
  rw [h7, h1, h2, h3]
  exact h
theorem d4_ok {σ : mS} (hA : aV σ) (k : Nat) (hk : k ≤ 50000) (hk1 : 1 ≤ k) (h : ∀ t, t < mn σ 15 → hok σ k t ∧ eok σ t) : ∀ n, n ≤ mn σ 11 → ∀ t, t < mn (m_d4L σ n) 15 → hok (m_d4L σ n) k t ∧ eok (m_d4L σ n) t := by
  intro n
  induction n with
  | zero => exact fun _ => h
  | succ n ih =>
    intro hn t
    rw [m_d4L_succ, m_d4]
    split
    · rename_i hc
      intro ht
      have i1 := ih (by omega)
      have hAt := aV_d4L hA n (by omega)
      have e11 : mn (m_d4L σ n) 11 = mn σ 11 := mn_m_d4L _ _ _ (by decide)
      have hv := hAt.2.2.2.2.2.1 _ (hAt.2.2.2.2.1 n (by omega))
      generalize m_d4L σ n = τ at *
      have e15 : mn (m_beginTrack τ n) 15 = mn τ 15 + 1 := by simp [m_beginTrack, mn_sa, mn_m_note, mn_sj, mn_sb, mn_sc, mn_cF, mn_m_holdAll, mn_sN, mn_sn]
      rw [e15] at ht
      by_cases htn : t = mn τ 15
      · subst htn
        have hw := w_rng hv
        have a1 : mb (m_beginTrack τ n) 24 (mn τ 15) = 1 := by simp [m_beginTrack, m_note, mb_sa, mb_sj, mb_sb]
        have a2 : mj (m_beginTrack τ n) 28 (mn τ 15) = 0 + l_max 1 (256 / (ma τ 6 (mb τ 9 n)).toInt64) := by simp [m_beginTrack, m_note, m_w, mj_sa, mj_sj, mj_sb, mj_sc, ma_sj, ma_sb, ma_sc, ma_cF, ma_m_holdAll, ma_sN, ma_sn, mb_sj, mb_sb, mb_sc, mb_cF, mb_m_holdAll, mb_sN, mb_sn]
        have a3 : mb (m_beginTrack τ n) 20 (mn τ 15) = mn τ 7 := by simp [m_beginTrack, mb_sa, mb_m_note, mb_sj, mb_sb, mb_sc, mn_sc, mn_cF, mn_m_holdAll, mn_sN, mn_sn]
        have a4 : mn (m_beginTrack τ n) 7 = mn τ 7 := mn_m_beginTrack _ _ _ (by decide)
        have a5 : mc (m_beginTrack τ n) 16 (mn τ 15) = true := by simp [m_beginTrack, mc_sa, mc_m_note, mc_sj, mc_sb, mc_sc]
        refine ⟨⟨by rw [a1]; exact Nat.le_refl _, by rw [a1]; exact hk1, ?_, ?_⟩, by rw [a3, a4]; exact Nat.le_refl _, Or.inl a5⟩
        · rw [a1, a2, Int64.zero_add]; omega
        · rw [a1, a2, Int64.zero_add]; omega
      · obtain ⟨j1, j2⟩ := i1 t (by omega)
        refine ⟨hok_eq j1 ?_ ?_, eok_eq j2 (mn_m_beginTrack _ _ _ (by decide)) ?_ ?_ ?_⟩
        · simp [m_beginTrack, m_note, mb_sa, mb_sj, mb_sb, mb_sc, mb_cF, mb_m_holdAll, mb_sN, mb_sn, htn]
        · simp [m_beginTrack, m_note, mj_sa, mj_sj, mj_sb, mj_sc, mj_cF, mj_m_holdAll, mj_sN, mj_sn, htn]
        · simp [m_beginTrack, m_note, mb_sa, mb_sj, mb_sb, mb_sc, mb_cF, mb_m_holdAll, mb_sN, mb_sn, htn]
        · simp [m_beginTrack, m_note, mb_sa, mb_sj, mb_sb, mb_sc, mb_cF, mb_m_holdAll, mb_sN, mb_sn, htn]
        · simp [m_beginTrack, m_note, mc_sa, mc_sj, mc_sb, mc_sc, mc_cF, mc_m_holdAll, mc_sN, mc_sn, htn]
    · exact ih (by omega) t
theorem d5_ok {σ : mS} (k : Nat) (h : ∀ t, t < mn σ 15 → hok σ k t ∧ eok σ t) : ∀ n, n ≤ mn σ 15 → ∀ t, t < mn σ 15 → hok (m_d5L σ n) k t ∧ (t < n → mb (m_d5L σ n) 20 t ≤ mb (m_d5L σ n) 21 t ∧ mb (m_d5L σ n) 21 t ≤ mn σ 7) ∧ (n ≤ t → eok (m_d5L σ n) t) := by
  intro n
  induction n with
  | zero => exact fun _ t ht => ⟨(h t ht).1, fun q => absurd q (Nat.not_lt_zero t), fun _ => (h t ht).2⟩
  | succ n ih =>
    intro hn t ht
    obtain ⟨i1, i2, i3⟩ := ih (by omega) t ht
    rw [m_d5L_succ, m_d5]
    have e7 : mn (m_d5L σ n) 7 = mn σ 7 := mn_m_d5L _ _ _
    split
    · rename_i hc
      refine ⟨hok_eq i1 ?_ ?_, ?_⟩
      · rw [mb_m_endBeat _ _ _ _ (by decide) (by decide) (by decide)]
      · rw [mj_m_endBeat]
      · by_cases htn : t = n
        · subst htn
          have hq := i3 (Nat.le_refl _)
          have e21 : mb (m_endBeat (m_d5L σ t) t) 21 t = mn (m_d5L σ t) 7 := by unfold m_endBeat m_endAge; dsimp only; split <;> simp [mb_sc, mb_sb, mb_cB, mn_cB]
          have e20 : mb (m_endBeat (m_d5L σ t) t) 20 t = mb (m_d5L σ t) 20 t := mb_m_endBeat _ _ _ _ (by decide) (by decide) (by decide)
          refine ⟨fun _ => ?_, fun q => absurd q (by omega)⟩
          rw [e20, e21]
          exact ⟨hq.1, by omega⟩
        · have e21 : mb (m_endBeat (m_d5L σ n) n) 21 t = mb (m_d5L σ n) 21 t := by unfold m_endBeat m_endAge; dsimp only; split <;> simp [mb_sc, mb_sb, mb_cB, mn_cB, htn]
          have e20 : mb (m_endBeat (m_d5L σ n) n) 20 t = mb (m_d5L σ n) 20 t := mb_m_endBeat _ _ _ _ (by decide) (by decide) (by decide)
          have e16 : mc (m_endBeat (m_d5L σ n) n) 16 t = mc (m_d5L σ n) 16 t := by unfold m_endBeat m_endAge; dsimp only; split <;> simp [mc_sc, mc_sb, mc_cB, htn]
          refine ⟨fun q => ?_, fun q => eok_eq (i3 (by omega)) (mn_m_endBeat _ _ _) e20 e21 e16⟩
          rw [e20, e21]
          exact i2 (by omega)
    · rename_i hc
      refine ⟨i1, fun q => ?_, fun q => i3 (by omega)⟩
      by_cases htn : t = n
      · subst htn
        rcases (i3 (Nat.le_refl _)).2 with h1 | h1
        · exact absurd h1 hc
        · rw [e7] at h1
          exact ⟨h1.1, by omega⟩
      · exact i2 (by omega)
/-- between two calls -/
def jV (σ : mS) : Prop := mn σ 5 ≤ 4 ∧ mn σ 8 ≤ 8 ∧ mn σ 15 ≤ 40 ∧ mn σ 7 ≤ 64 ∧ (∀ h, h < mn σ 8 → mb σ 9 h < mn σ 5) ∧ (∀ s, s < mn σ 5 → vok (ma σ 6 s)) ∧ (∀ t, t < mn σ 15 → nok (mN σ t 2)) ∧ m_alive σ ≤ 6 ∧ (∀ t, t < mn σ 15 → hok σ (32 * mn σ 7) t ∧ mb σ 20 t ≤ mb σ 21 t ∧ mb σ 21 t < mn σ 7) ∧ mn σ 13 ≤ 8 * mn σ 7 ∧ mn σ 14 ≤ 24 * mn σ 7 ∧ mn σ 11 ≤ 8
theorem jV.toA {σ τ : mS} (h : jV σ) (h7 : mn σ 7 < 64) (h0 : ∀ x, ¬ x = 43 → mn τ x = mn σ x) (h1 : ∀ x y, mb τ x y = mb σ x y) (h2 : ∀ x y, ma τ x y = ma σ x y) (h3 : ∀ x y, mN τ x y = mN σ x y) (h4 : ∀ x y, mc τ x y = mc σ x y) : aV (sn τ 11 (mn τ 8)) := by
  obtain ⟨a, b, c, d, e, f, g, k, _⟩ := h
  have q5 := h0 5 (by decide)
  have q8 := h0 8 (by decide)
  have q15 := h0 15 (by decide)
  have q7 := h0 7 (by decide)
  refine ⟨by simp [mn_sn, q5]; exact a, by simp [mn_sn, q8]; exact b, by simp [mn_sn, q15]; exact c, by simp [mn_sn, q7]; exact h7, fun i hi => ?_, fun s hs => ?_, fun t ht => ?_, ?_⟩
  · simp [mn_sn, q8] at hi
    simp [mn_sn, mb_sn, h1, q5]
    exact e i hi
  · simp [mn_sn, q5] at hs
    simp [ma_sn, h2]
    exact f s hs
  · simp [mn_sn, q15] at ht
    simp [mN_sn, h3]
    exact g t ht
  · unfold m_alive at k ⊢
    rw [show mn (sn τ 11 (mn τ 8)) 15 = mn σ 15 by simp [mn_sn, q15]]
    exact Nat.le_trans (m_cnt_mono (fun t _ ht => by simpa [mc_sn, h4] using ht)) k

theorem jV_doBeat {σ : mS} (h : jV σ) (h7 : mn σ 7 < 64) : jV (m_doBeat σ) := by
  have hA : aV (sn σ 11 (mn σ 8)) := h.toA h7 (fun _ _ => rfl) (fun _ _ => rfl) (fun _ _ => rfl) (fun _ _ => rfl) (fun _ _ => rfl)
  obtain ⟨a, b, c, d, e, f, g, k, q, q13, q14, q11⟩ := h
  have hD2 := aV_d2L (aV_d1L hA (mn σ 15)) (mn σ 8)
  have hA3 := aV_d3L hD2 (mn σ 5)
  have e2_15 : mn (m_d2L (m_d1L (sn σ 11 (mn σ 8)) (mn σ 15)) (mn σ 8)) 15 = mn σ 15 := by simp [mn_m_d2L, mn_m_d1L, mn_sn]
  have e2_7 : mn (m_d2L (m_d1L (sn σ 11 (mn σ 8)) (mn σ 15)) (mn σ 8)) 7 = mn σ 7 := by simp [mn_m_d2L, mn_m_d1L, mn_sn]
  have e2_14 : mn (m_d2L (m_d1L (sn σ 11 (mn σ 8)) (mn σ 15)) (mn σ 8)) 14 = mn σ 14 := by simp [mn_m_d2L, mn_m_d1L, mn_sn]
  have e2b : ∀ x y, mb (m_d2L (m_d1L (sn σ 11 (mn σ 8)) (mn σ 15)) (mn σ 8)) x y = mb σ x y := by intro x y; simp [mb_m_d2L, mb_m_d1L, mb_sn]
  have e2j : ∀ x y, mj (m_d2L (m_d1L (sn σ 11 (mn σ 8)) (mn σ 15)) (mn σ 8)) x y = mj σ x y := by intro x y; simp [mj_m_d2L, mj_m_d1L, mj_sn]
  have e2c : ∀ y, mc (m_d2L (m_d1L (sn σ 11 (mn σ 8)) (mn σ 15)) (mn σ 8)) 16 y = mc σ 16 y := by intro y; rw [mc_m_d2L, mc_m_d1L _ _ _ _ (by decide) (by decide)]; rfl
  have e3_11 : mn (m_d3L (m_d2L (m_d1L (sn σ 11 (mn σ 8)) (mn σ 15)) (mn σ 8)) (mn σ 5)) 11 = mn σ 8 := by simp [mn_m_d3L, mn_m_d2L, mn_m_d1L, mn_sn]
  have heq := m_doBeat_eq σ
  generalize hD : m_d2L (m_d1L (sn σ 11 (mn σ 8)) (mn σ 15)) (mn σ 8) = D2 at *
  have g3 := d3_hok hD2 (32 * mn σ 7) (by omega) (fun t ht => hok_eq (q t (by rw [e2_15] at ht; exact ht)).1 (e2b _ _) (e2j _ _)) (mn σ 5) a
  rw [e2_15, e2_14] at g3
  have e3_15 : mn (m_d3L D2 (mn σ 5)) 15 = mn σ 15 := by rw [mn_m_d3L _ _ _ (by decide) (by decide) (by decide), e2_15]
  have e3_7 : mn (m_d3L D2 (mn σ 5)) 7 = mn σ 7 := by rw [mn_m_d3L _ _ _ (by decide) (by decide) (by decide), e2_7]
  have g4 := d4_ok hA3 (32 * mn σ 7 + 32) (by omega) (by omega) (fun t ht => ⟨hok_up (g3.1 t (by rw [e3_15] at ht; exact ht)) (by omega), by
    rw [e3_15] at ht
    obtain ⟨z1, z2, z3⟩ := q t ht
    unfold eok
    rw [e3_7, mb_m_d3L _ _ _ _ (by decide) (by decide) (by decide), mb_m_d3L _ _ _ _ (by decide) (by decide) (by decide), e2b, e2b]
    exact ⟨by omega, Or.inr ⟨z2, z3⟩⟩⟩) (mn σ 8) (by rw [e3_11]; exact Nat.le_refl _)
  have hA4 := aV_d4L hA3 (mn σ 8) (by rw [e3_11]; exact Nat.le_refl _)
  have e4_7 : mn (m_d4L (m_d3L D2 (mn σ 5)) (mn σ 8)) 7 = mn σ 7 := by rw [mn_m_d4L _ _ _ (by decide), e3_7]
  have e4_5 : mn (m_d4L (m_d3L D2 (mn σ 5)) (mn σ 8)) 5 = mn σ 5 := by rw [mn_m_d4L _ _ _ (by decide), mn_m_d3L _ _ _ (by decide) (by decide) (by decide), ← hD]; simp [mn_m_d2L, mn_m_d1L, mn_sn]
  have e4_11 : mn (m_d4L (m_d3L D2 (mn σ 5)) (mn σ 8)) 11 = mn σ 8 := by rw [mn_m_d4L _ _ _ (by decide), e3_11]
  have e4_14 : mn (m_d4L (m_d3L D2 (mn σ 5)) (mn σ 8)) 14 ≤ mn σ 14 + 24 := by rw [mn_m_d4L _ _ _ (by decide)]; have := g3.2; omega
  generalize hE : m_d4L (m_d3L D2 (mn σ 5)) (mn σ 8) = D4 at *
  have g5 := d5_ok (32 * mn σ 7 + 32) g4 (mn D4 15) (Nat.le_refl _)
  have hal := alive_doBeat hA
  have r : ∀ x, mn (m_doBeat σ) x = if x = 7 then mn σ 7 + 1 else if x = 8 then 0 else if x = 13 then mn σ 13 + mn σ 8 else mn D4 x := by
    intro x
    rw [heq]
    simp [mn_sn, mn_m_d5L]
  have rb : ∀ x y, mb (m_doBeat σ) x y = mb (m_d5L D4 (mn D4 15)) x y := by intro x y; rw [heq]; simp [mb_sn]
  have rj : ∀ x y, mj (m_doBeat σ) x y = mj (m_d5L D4 (mn D4 15)) x y := by intro x y; rw [heq]; simp [mj_sn]
  have ra : ∀ x y, ma (m_doBeat σ) x y = ma D4 x y := by intro x y; rw [heq]; simp [ma_sn, ma_m_d5L]
  have rN : ∀ x y, mN (m_doBeat σ) x y = mN D4 x y := by intro x y; rw [heq]; simp [mN_sn, mN_m_d5L]
  have r5 : mn (m_doBeat σ) 5 = mn σ 5 := by rw [r]; simp; exact e4_5
  have r8 : mn (m_doBeat σ) 8 = 0 := by rw [r]; simp
  have r7 : mn (m_doBeat σ) 7 = mn σ 7 + 1 := by rw [r]; simp
  have r15 : mn (m_doBeat σ) 15 = mn D4 15 := by rw [r]; simp
  refine ⟨by rw [r5]; exact a, by rw [r8]; omega, hal.1, by rw [r7]; omega, fun h hh => by rw [r8] at hh; exact absurd hh (Nat.not_lt_zero h), fun s hs => ?_, fun t ht => ?_, hal.2, fun t ht => ?_, ?_, ?_, ?_⟩
  · rw [ra]; exact hA4.2.2.2.2.2.1 s (by rw [e4_5]; rw [r5] at hs; exact hs)
  · rw [rN]; exact hA4.2.2.2.2.2.2.1 t (by rw [r15] at ht; exact ht)
  · rw [r15] at ht
    obtain ⟨z1, z2, z3⟩ := g5 t ht
    refine ⟨?_, ?_⟩
    · rw [r7]
      exact hok_eq (hok_up z1 (by omega)) (rb _ _) (rj _ _)
    · rw [rb, rb, r7]
      have := z2 ht
      rw [e4_7] at this
      exact ⟨this.1, by omega⟩
  · rw [r, r7]; simp; omega
  · rw [r, r7]; simp; omega
  · rw [r]; simp; omega
theorem jV.keep {σ τ : mS} (h : jV σ) (h0 : ∀ x, ¬ x = 43 → mn τ x = mn σ x) (h1 : ∀ x y, mb τ x y = mb σ x y) (h2 : ∀ x y, ma τ x y = ma σ x y) (h3 : ∀ x y, mN τ x y = mN σ x y) (h4 : ∀ x y, mc τ x y = mc σ x y) (h5 : ∀ x y, mj τ x y = mj σ x y) : jV τ := by
  obtain ⟨a, b, c, d, e, f, g, k, q, q13, q14, q11⟩ := h
  refine ⟨by rw [h0 5 (by decide)]; exact a, by rw [h0 8 (by decide)]; exact b, by rw [h0 15 (by decide)]; exact c, by rw [h0 7 (by decide)]; exact d, fun i hi => ?_, fun s hs => ?_, fun t ht => ?_, ?_, fun t ht => ?_, by rw [h0 7 (by decide), h0 13 (by decide)]; exact q13, by rw [h0 7 (by decide), h0 14 (by decide)]; exact q14, by rw [h0 11 (by decide)]; exact q11⟩
  · rw [h0 8 (by decide)] at hi; rw [h1, h0 5 (by decide)]; exact e i hi
  · rw [h0 5 (by decide)] at hs; rw [h2]; exact f s hs
  · rw [h0 15 (by decide)] at ht; rw [h3]; exact g t ht
  · unfold m_alive at k ⊢
    rw [h0 15 (by decide)]
    exact Nat.le_trans (m_cnt_mono (fun t _ ht => by rw [h4] at ht; exact ht)) k
  · rw [h0 15 (by decide)] at ht
    rw [h0 7 (by decide), h1, h1]
    exact ⟨hok_eq (q t ht).1 (h1 _ _) (h5 _ _), (q t ht).2⟩
theorem jV.first {σ : mS} (h : jV σ) (b : Bool) : jV (m_first σ b) := h.keep (fun x hx => mn_m_first _ _ _ hx) (fun _ _ => mb_m_first _ _ _ _) (fun _ _ => ma_m_first _ _ _ _) (fun _ _ => mN_m_first _ _ _ _) (fun _ _ => mc_m_first _ _ _ _) (fun _ _ => mj_m_first _ _ _ _)
theorem jV.toA0 {σ : mS} (h : jV σ) (h7 : mn σ 7 < 64) : aV (sn σ 11 (mn σ 8)) := h.toA h7 (fun _ _ => rfl) (fun _ _ => rfl) (fun _ _ => rfl) (fun _ _ => rfl) (fun _ _ => rfl)
theorem mn7_doBeat (σ : mS) : mn (m_doBeat σ) 7 = mn σ 7 + 1 := by rw [m_doBeat_eq]; simp [mn_sn]
def m_btL (σ : mS) (n : Nat) : mS := m_for (fun _ σ => m_doBeat σ) n σ
theorem m_btL_succ (σ : mS) (n : Nat) : m_btL σ (n + 1) = m_doBeat (m_btL σ n) := rfl
theorem jV_btL {σ : mS} (h : jV σ) : ∀ n, mn σ 7 + n ≤ 64 → jV (m_btL σ n) ∧ mn (m_btL σ n) 7 = mn σ 7 + n := by
  intro n
  induction n with
  | zero => exact fun _ => ⟨h, rfl⟩
  | succ n ih =>
    intro hn
    obtain ⟨i1, i2⟩ := ih (by omega)
    rw [m_btL_succ, mn7_doBeat, i2]
    exact ⟨jV_doBeat i1 (by omega), by omega⟩
theorem jV.beat {σ : mS} (h : jV σ) : jV (m_beat σ) := by
  unfold m_beat
  split
  · exact jV_doBeat (h.first _) (by rw [mn_m_first _ _ _ (by decide)]; assumption)
  · exact h.first _
theorem bts_le {σ : mS} {n : Int32} (h7 : mn σ 7 ≤ 64) (h1 : m_in n 1 10 = true) (h2 : nI (mn σ 7) + n ≤ 64) : n = nI n.toNatClampNeg ∧ n.toNatClampNeg ≤ 10 ∧ mn σ 7 + n.toNatClampNeg ≤ 64 := by
  obtain ⟨a, b⟩ := in_iff.mp h1
  have h0 : (0 : Int32) ≤ n := Int32.le_trans (by decide) a
  have hn := n_of h0
  have hb : n.toNatClampNeg ≤ 10 := (n_le (x := n) (y := 10) (a := n.toNatClampNeg) (b := 10) hn rfl n_cl (by decide)).mp b
  rw [hn] at h2
  have e := n_add (a := mn σ 7) (b := n.toNatClampNeg) rfl rfl
  rw [e] at h2
  exact ⟨hn, hb, (n_le (a := mn σ 7 + n.toNatClampNeg) (b := 64) rfl rfl (by omega) (by decide)).mp h2⟩
theorem jV.beats {σ : mS} (h : jV σ) (n : Int32) : jV (m_beats σ n) := by
  unfold m_beats
  split
  · rename_i h1
    split
    · rename_i h2
      have e7 : mn (m_first σ true) 7 = mn σ 7 := mn_m_first _ _ _ (by decide)
      exact (jV_btL (h.first true) n.toNatClampNeg (by rw [e7]; exact (bts_le h.2.2.2.1 h1 h2).2.2)).1
    · exact (h.first true).keep (fun x hx => mn_m_claim _ _ _ _ hx) (fun _ _ => mb_m_claim _ _ _ _ _) (fun _ _ => ma_m_claim _ _ _ _ _) (fun _ _ => mN_m_claim _ _ _ _ _) (fun _ _ => mc_m_claim _ _ _ _ _) (fun _ _ => mj_m_claim _ _ _ _ _)
  · exact h.first _
