/-! what holds of the reference's state -/
set_option maxRecDepth 100000
theorem l_hold_le {v lo hi : Int64} (h : lo ≤ hi) : lo ≤ l_hold v lo hi ∧ l_hold v lo hi ≤ hi := by
  unfold l_hold l_max l_min
  have hh := Int64.le_iff_toInt_le.mp h
  split <;> split <;> constructor <;> first | exact Int64.le_refl _ | (rename_i h1 h2; simp only [Int64.lt_iff_toInt_lt, Int64.le_iff_toInt_le] at *; omega)
theorem mN_holdAll_ne (σ : mS) (t x y : Nat) (h : ¬ x = t) : mN (m_holdAll σ t) x y = mN σ x y := by simp [m_holdAll, mN_sN, h]
theorem mN_holdAll_2 (σ : mS) (t : Nat) : mN (m_holdAll σ t) t 2 = l_hold (mN σ t 2) 1 16777216 := by simp [m_holdAll, mN_sN]
def nok (x : Int64) : Prop := 1 ≤ x ∧ x ≤ 16777216
theorem nok_hold (x : Int64) : nok (l_hold x 1 16777216) := l_hold_le (by decide)
def vok (x : Int32) : Prop := 1 ≤ x ∧ x ≤ 65536
theorem vok_nz {x : Int32} (h : vok x) : ¬ x.toInt64 = 0 := by
  intro hz
  have h1 := Int32.le_iff_toInt_le.mp h.1
  have h2 : x.toInt64.toInt = 0 := by rw [hz]; rfl
  rw [Int32.toInt_toInt64] at h2
  have h3 : (1 : Int32).toInt = 1 := rfl
  omega
theorem sp_toInt {x : Int64} {v : Int32} (h1 : nok x) (h2 : vok v) : (x + 256 * v.toInt64).toInt = x.toInt + 256 * v.toInt ∧ 1 ≤ x.toInt ∧ x.toInt ≤ 16777216 ∧ 1 ≤ v.toInt ∧ v.toInt ≤ 65536 := by
  have a1 := Int64.le_iff_toInt_le.mp h1.1
  have a2 := Int64.le_iff_toInt_le.mp h1.2
  have b1 := Int32.le_iff_toInt_le.mp h2.1
  have b2 := Int32.le_iff_toInt_le.mp h2.2
  have e1 : (1 : Int64).toInt = 1 := rfl
  have e2 : (16777216 : Int64).toInt = 16777216 := rfl
  have e3 : (1 : Int32).toInt = 1 := rfl
  have e4 : (65536 : Int32).toInt = 65536 := rfl
  have e5 : (256 : Int64).toInt = 256 := rfl
  rw [e1] at a1
  rw [e2] at a2
  rw [e3] at b1
  rw [e4] at b2
  refine ⟨?_, a1, a2, b1, b2⟩
  rw [Int64.toInt_add, Int64.toInt_mul, Int32.toInt_toInt64, e5]
  rw [Int.bmod_eq_of_le (n := 256 * v.toInt) (by omega) (by omega), Int.bmod_eq_of_le (by omega) (by omega)]
theorem sp_nz {σ : mS} {t s : Nat} (h1 : nok (mN σ t 2)) (h2 : vok (ma σ 6 s)) : ¬ m_spread σ t s = 0 := by
  intro hz
  have h := sp_toInt h1 h2
  rw [m_spread] at hz
  rw [hz] at h
  have e : (0 : Int64).toInt = 0 := rfl
  omega
theorem m_cnt_le (f : Nat → Bool) (n : Nat) : m_cnt f n ≤ n := by
  induction n with
  | zero => exact Nat.le_refl _
  | succ n ih => rw [m_cnt]; split <;> omega
theorem m_cnt_mono {f g : Nat → Bool} {n : Nat} (h : ∀ t, t < n → f t = true → g t = true) : m_cnt f n ≤ m_cnt g n := by
  induction n with
  | zero => exact Nat.le_refl _
  | succ n ih =>
    have := ih (fun t ht => h t (by omega))
    rw [m_cnt, m_cnt]
    by_cases hf : f n = true
    · rw [if_pos hf, if_pos (h n (by omega) hf)]; omega
    · rw [if_neg hf]; split <;> omega
theorem m_cnt_up (f : Nat → Bool) {n m : Nat} (h : n ≤ m) : m_cnt f n ≤ m_cnt f m := by
  induction m with
  | zero => rw [Nat.le_zero.mp h]; exact Nat.le_refl _
  | succ m ih =>
    by_cases hn : n = m + 1
    · rw [hn]; exact Nat.le_refl _
    · have := ih (by omega)
      rw [m_cnt]
      split <;> omega
theorem m_cnt_eq {f g : Nat → Bool} {n : Nat} (h : ∀ t, t < n → f t = g t) : m_cnt f n = m_cnt g n := by
  induction n with
  | zero => rfl
  | succ n ih => rw [m_cnt, m_cnt, ih (fun t ht => h t (by omega)), h n (by omega)]
/-- what a beat needs and keeps -/
def aV (σ : mS) : Prop := mn σ 5 ≤ 4 ∧ mn σ 11 ≤ 8 ∧ mn σ 15 ≤ 40 ∧ mn σ 7 < 64 ∧ (∀ h, h < mn σ 11 → mb σ 9 h < mn σ 5) ∧ (∀ s, s < mn σ 5 → vok (ma σ 6 s)) ∧ (∀ t, t < mn σ 15 → nok (mN σ t 2)) ∧ m_alive σ ≤ 6
theorem aV_keep {σ τ : mS} (h : aV σ) (h1 : ∀ x, x ∈ [5, 7, 11, 15] → mn τ x = mn σ x) (h2 : ∀ y, mb τ 9 y = mb σ 9 y) (h3 : ∀ y, ma τ 6 y = ma σ 6 y) (h4 : ∀ t, t < mn σ 15 → nok (mN τ t 2)) (h5 : ∀ t, t < mn σ 15 → mc τ 16 t = true → mc σ 16 t = true) : aV τ := by
  obtain ⟨a, b, c, d, e, f, g, k⟩ := h
  have e5 := h1 5 (by decide)
  have e7 := h1 7 (by decide)
  have e11 := h1 11 (by decide)
  have e15 := h1 15 (by decide)
  refine ⟨by rw [e5]; exact a, by rw [e11]; exact b, by rw [e15]; exact c, by rw [e7]; exact d, fun h hh => ?_, fun s hs => ?_, fun t ht => ?_, ?_⟩
  · rw [h2, e5]; exact e h (by rw [e11] at hh; exact hh)
  · rw [h3]; exact f s (by rw [e5] at hs; exact hs)
  · exact h4 t (by rw [e15] at ht; exact ht)
  · unfold m_alive at k ⊢
    rw [e15]
    exact Nat.le_trans (m_cnt_mono h5) k
theorem aV.hv {σ : mS} (h : aV σ) {i : Nat} (hi : i < mn σ 11) : ¬ (ma σ 6 (mb σ 9 i)).toInt64 = 0 := vok_nz (h.2.2.2.2.2.1 _ (h.2.2.2.2.1 i hi))
theorem aV.hz {σ : mS} (h : aV σ) {t i : Nat} (ht : t < mn σ 15) (hi : i < mn σ 11) : ¬ m_spread σ t (mb σ 9 i) = 0 := sp_nz (h.2.2.2.2.2.2.1 t ht) (h.2.2.2.2.2.1 _ (h.2.2.2.2.1 i hi))
theorem nok_foretell {σ : mS} {t x : Nat} (h : nok (mN σ x 2)) : nok (mN (m_foretell σ t) x 2) := by
  by_cases hx : x = t
  · subst hx
    simp only [m_foretell, mN_cF, mN_holdAll_2]
    exact nok_hold _
  · simp only [m_foretell, mN_cF]
    rw [mN_holdAll_ne _ _ _ _ hx]
    simp [mN_sN, hx]
    exact h
theorem nok_correct {σ : mS} {t h x : Nat} (hx : nok (mN σ x 2)) : nok (mN (m_correct σ t h) x 2) := by
  by_cases hxt : x = t
  · subst hxt
    simp only [m_correct, mN_m_note, mN_sn, mN_sa, mN_sc, mN_holdAll_2]
    exact nok_hold _
  · simp only [m_correct, mN_m_note, mN_sn, mN_sa, mN_sc]
    rw [mN_holdAll_ne _ _ _ _ hxt]
    simp [mN_sN, hxt]
    exact hx
theorem aV_d1 {σ : mS} (h : aV σ) (t : Nat) : aV (m_d1 t σ) := by
  have h1 : aV (sc (sc σ 18 t false) 19 t false) := aV_keep h (fun x _ => by simp [mn_sc]) (fun y => by simp [mb_sc]) (fun y => by simp [ma_sc]) (fun t ht => by simpa [mN_sc] using h.2.2.2.2.2.2.1 t ht) (fun t ht => by simp [mc_sc])
  simp only [m_d1]
  split
  · exact aV_keep h1 (fun x _ => mn_m_foretell _ _ _) (fun y => mb_m_foretell _ _ _ _) (fun y => ma_m_foretell _ _ _ _) (fun t ht => nok_foretell (h1.2.2.2.2.2.2.1 t ht)) (fun t ht hc => by rwa [mc_m_foretell] at hc)
  · exact h1
theorem aV_d2 {σ : mS} (h : aV σ) (i : Nat) : aV (m_d2 i σ) := aV_keep h (fun x _ => by simp [m_d2, mn_sa]) (fun y => by simp [m_d2, mb_sa]) (fun y => by simp [m_d2, ma_sa]) (fun t ht => by simpa [m_d2, mN_sa] using h.2.2.2.2.2.2.1 t ht) (fun t ht => by simp [m_d2, mc_sa])
theorem aV_correct {σ : mS} (h : aV σ) (t i : Nat) : aV (m_correct σ t i) := aV_keep h (fun x hx => mn_m_correct _ _ _ _ (by rintro rfl; exact absurd hx (by decide))) (fun y => mb_m_correct _ _ _ _ _ (by decide)) (fun y => ma_m_correct _ _ _ _ _ (by decide)) (fun t ht => nok_correct (h.2.2.2.2.2.2.1 t ht)) (fun t ht hc => by rwa [mc_m_correct _ _ _ _ _ (by decide)] at hc)
theorem m_for_inv (P : mS → Prop) (f : Nat → mS → mS) (n : Nat) (h : ∀ i τ, i < n → P τ → P (f i τ)) (σ : mS) (h0 : P σ) : ∀ i, i ≤ n → P (m_for f i σ) := by
  intro i
  induction i with
  | zero => exact fun _ => h0
  | succ i ih => exact fun hi => h i _ (by omega) (ih (by omega))
/-- a candidate's or nobody's number -/
def gok (σ : mS) (v : Int32) : Prop := v = -1 ∨ ∃ i, i < mn σ 34 ∧ v = nI (mb σ 33 i)
def bok (σ : mS) : Prop := ∀ j, j < mn σ 36 → gok σ (ma σ 38 j)
theorem gok_eq {σ τ : mS} (h1 : mn τ 34 = mn σ 34) (h2 : ∀ i, mb τ 33 i = mb σ 33 i) (v : Int32) : gok τ v ↔ gok σ v := by
  unfold gok
  rw [h1]
  simp only [h2]
theorem try_ok (r : Nat) : ∀ (k : Nat) (used : Int32) (pairs : Nat) (cost : Int64) (σ : mS), k + r = mn σ 36 → pairs ≤ k → mn σ 36 ≤ 100 → (∀ j, j < k → gok σ (ma σ 37 j)) → (0 ≤ mz σ 39 → bok σ) → 0 ≤ mz (m_try r k used pairs cost σ) 39 ∧ bok (m_try r k used pairs cost σ) := by
  induction r with
  | zero =>
    intro k used pairs cost σ hk hp hkk hg hb
    rw [m_try, m_leaf]
    have hp0 : (0 : Int32) ≤ nI pairs := nI_pos' (by omega)
    split
    · have e : m_for (fun i σ => sa σ 38 i (ma σ 37 i)) (mn σ 36) (sl (sz σ 39 (nI pairs)) 40 cost) = m_leafL (sl (sz σ 39 (nI pairs)) 40 cost) (mn σ 36) := rfl
      rw [e]
      constructor
      · rw [show mz (m_leafL (sl (sz σ 39 (nI pairs)) 40 cost) (mn σ 36)) 39 = nI pairs from (mz_m_leafL _ _ _).trans (by simp [mz_sl, mz_sz])]
        exact hp0
      · intro j hj
        rw [mn_m_leafL] at hj
        have hj : j < mn σ 36 := by simpa [mn_sl, mn_sz] using hj
        rw [gok_eq (σ := σ) (τ := m_leafL (sl (sz σ 39 (nI pairs)) 40 cost) (mn σ 36)) (by rw [mn_m_leafL]; simp [mn_sl, mn_sz]) (fun i => by rw [mb_m_leafL]; simp [mb_sl, mb_sz])]
        have hq : ∀ n, j < n → ma (m_leafL (sl (sz σ 39 (nI pairs)) 40 cost) n) 38 j = ma σ 37 j := by
          intro n
          induction n with
          | zero => exact fun h => absurd h (by omega)
          | succ n ih =>
            intro h
            rw [m_leafL_succ, ma_sa, ma_m_leafL _ _ _ _ (by decide)]
            by_cases hjn : j = n
            · subst hjn
              simp [ma_sl, ma_sz]
            · rw [if_neg (by omega)]
              exact ih (by omega)
        rw [hq _ hj]
        exact hg j (by omega)
    · rename_i hc
      have h0 : 0 ≤ mz σ 39 := Int32.le_trans hp0 (Int32.not_lt.mp (fun q => hc (Or.inl q)))
      exact ⟨h0, hb h0⟩
  | succ r ih =>
    intro k used pairs cost σ hk hp hkk hg hb
    rw [m_try_succ]
    let P : mS → Prop := fun τ => mn τ 36 = mn σ 36 ∧ mn τ 34 = mn σ 34 ∧ (∀ i, mb τ 33 i = mb σ 33 i) ∧ (∀ j, j < k → gok σ (ma τ 37 j)) ∧ (0 ≤ mz τ 39 → ∀ j, j < mn σ 36 → gok σ (ma τ 38 j))
    have keep : ∀ (j k : Nat) (used : Int32) (pairs : Nat) (cost : Int64) (r : Nat) (τ : mS), j < k → ma (m_try r k used pairs cost τ) 37 j = ma τ 37 j := by
      intro j k used pairs cost r
      induction r generalizing k used pairs cost with
      | zero =>
        intro τ hj
        rw [m_try, m_leaf]
        split
        · exact (m_for_keep (fun τ => ma τ 37 j) _ (fun i τ => by simp [ma_sa]) _ _).trans (by simp [ma_sl, ma_sz])
        · rfl
      | succ r ihr =>
        intro τ hj
        rw [m_try_succ, ihr _ _ _ _ _ (by omega), ma_sa, if_neg (by omega)]
        refine m_for_keep (fun τ => ma τ 37 j) _ (fun i τ => ?_) _ _
        unfold m_tryB
        split
        · rw [ihr _ _ _ _ _ (by omega), ma_sa, if_neg (by omega)]
        · rfl
    have hP : P (m_tryL r k used pairs cost (mn σ 34) σ) := by
      refine m_for_inv P (m_tryB r k used pairs cost) (mn σ 34) (fun i τ hi hτ => ?_) σ ⟨rfl, rfl, fun _ => rfl, hg, hb⟩ (mn σ 34) (Nat.le_refl _)
      obtain ⟨p1, p2, p3, p4, p5⟩ := hτ
      unfold m_tryB
      split
      · have hx := ih (k + 1) (used ||| ((1 : Int32) <<< (nI i &&& 31))) (pairs + 1) (cost + m_costOf (sa τ 37 k (nI (mb τ 33 i))) (mb τ 35 k) (mb τ 33 i)) (sa τ 37 k (nI (mb τ 33 i))) (by rw [mn_sa, p1]; omega) (by omega) (by rw [mn_sa, p1]; exact hkk) (fun j hj => ?_) (fun h0 j hj => ?_)
        · refine ⟨by rw [mn_m_try, mn_sa, p1], by rw [mn_m_try, mn_sa, p2], fun q => by rw [mb_m_try, mb_sa, p3], fun j hj => ?_, fun h0 j hj => ?_⟩
          · rw [keep _ _ _ _ _ _ _ (by omega), ma_sa, if_neg (by omega)]
            exact p4 j hj
          · have h1 := hx.2 j (by rw [mn_m_try, mn_sa, p1]; exact hj)
            exact (gok_eq (by rw [mn_m_try, mn_sa, p2]) (fun q => by rw [mb_m_try, mb_sa, p3]) _).mp h1
        · rw [gok_eq (σ := σ) (by rw [mn_sa, p2]) (fun q => by rw [mb_sa, p3]), ma_sa]
          by_cases hjk : j = k
          · rw [if_pos ⟨rfl, hjk⟩]
            exact Or.inr ⟨i, hi, by rw [p3]⟩
          · rw [if_neg (fun q => hjk q.2)]
            exact p4 j (by omega)
        · rw [gok_eq (σ := σ) (by rw [mn_sa, p2]) (fun q => by rw [mb_sa, p3]), ma_sa, if_neg (by omega)]
          rw [mz_sa] at h0
          rw [mn_sa, p1] at hj
          exact p5 h0 j hj
      · exact ⟨p1, p2, p3, p4, p5⟩
    obtain ⟨p1, p2, p3, p4, p5⟩ := hP
    refine ih (k + 1) used pairs cost _ (by rw [mn_sa, p1]; omega) (by omega) (by rw [mn_sa, p1]; exact hkk) (fun j hj => ?_) (fun h0 j hj => ?_)
    · rw [gok_eq (σ := σ) (by rw [mn_sa, p2]) (fun q => by rw [mb_sa, p3]), ma_sa]
      by_cases hjk : j = k
      · rw [if_pos ⟨rfl, hjk⟩]
        exact Or.inl rfl
      · rw [if_neg (fun q => hjk q.2)]
        exact p4 j (by omega)
    · rw [gok_eq (σ := σ) (by rw [mn_sa, p2]) (fun q => by rw [mb_sa, p3]), ma_sa, if_neg (by omega)]
      rw [mz_sa] at h0
      rw [mn_sa, p1] at hj
      exact p5 h0 j hj
