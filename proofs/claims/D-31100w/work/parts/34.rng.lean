/-! ranges -/
theorem in_rng {x : Int32} {n : Nat} (hn : n < 1073741824) (h : m_in x 0 (nI n - 1) = true) : x = nI x.toNatClampNeg ∧ x.toNatClampNeg < n := by
  obtain ⟨h1, h2⟩ := in_iff.mp h
  obtain ⟨j, hj, rfl⟩ := nI_of (Int32.not_lt.mpr h1)
  rw [nI_clamp hj]
  refine ⟨rfl, ?_⟩
  have e1 : (nI n - 1).toInt = (n : Int) - 1 := by
    have := pk_sub_toInt (a := n) (b := 1) (by omega) (by omega)
    exact this
  have e2 := Int32.le_iff_toInt_le.mp h2
  rw [e1, nI_toInt hj] at e2
  omega
theorem in_rng2 {x : Int32} {a b : Nat} (ha : a < 1073741824) (hb : b < 1073741824) (h : m_in x (nI a) (nI b) = true) : x = nI x.toNatClampNeg ∧ a ≤ x.toNatClampNeg ∧ x.toNatClampNeg ≤ b := by
  obtain ⟨h1, h2⟩ := in_iff.mp h
  have e1 := Int32.le_iff_toInt_le.mp h1
  have e2 := Int32.le_iff_toInt_le.mp h2
  rw [nI_toInt (by omega)] at e1 e2
  have h0 : (0 : Int32) ≤ x := by
    apply Int32.le_iff_toInt_le.mpr
    show (0 : Int) ≤ x.toInt
    omega
  obtain ⟨j, hj, rfl⟩ := nI_of (Int32.not_lt.mpr h0)
  rw [nI_clamp hj]
  rw [nI_toInt hj] at e1 e2
  exact ⟨rfl, by omega, by omega⟩
theorem n_sub1 {e j : Nat} (h : j < e) : nI (e - j) - 1 = nI (e - 1 - j) := by
  have h1 := pk_sub (a := e - j) (b := 1) (by omega)
  have h2 : nI (e - j) - 1 = nI (e - j - 1) := h1
  rw [h2, show e - j - 1 = e - 1 - j by omega]
theorem n_dec {e j : Nat} (h : j < e) : nI (e - 1 - j) + Int32.ofInt (-1) = nI (e - (j + 1)) - 1 := by
  rw [show e - (j + 1) = e - 1 - j by omega, Int32.sub_eq_add_neg]
  rfl
theorem n_lt1 {b : Nat} (h : b < 1073741824) : nI b - 1 < nI b := by
  apply Int32.lt_iff_toInt_lt.mpr
  have e1 : (nI b - 1).toInt = (b : Int) - 1 := by
    have := pk_sub_toInt (a := b) (b := 1) (by omega) (by omega)
    exact this
  rw [e1, nI_toInt (by omega)]
  omega
theorem m_for_keep {α : Type} (g : mS → α) (f : Nat → mS → mS) (h : ∀ (t : Nat) (σ : mS), g (f t σ) = g σ) (n : Nat) (σ : mS) : g (m_for f n σ) = g σ := by
  induction n with
  | zero => rfl
  | succ n ih => exact (h n _).trans ih
theorem mb_m_back (σ : mS) (t k x y : Nat) : mb (m_back σ t k) x y = mb σ x y := by
  unfold m_back
  dsimp only
  split <;> simp [mb_sl]
theorem mB_m_back (σ : mS) (t k x y z : Nat) : mB (m_back σ t k) x y z = mB σ x y z := by
  unfold m_back
  dsimp only
  split <;> simp [mB_sl]
theorem mF_m_back (σ : mS) (t k x y z : Nat) : mF (m_back σ t k) x y z = mF σ x y z := by
  unfold m_back
  dsimp only
  split <;> simp [mF_sl]
theorem mn_m_back (σ : mS) (t k x : Nat) : mn (m_back σ t k) x = mn σ x := by
  unfold m_back
  dsimp only
  split <;> simp [mn_sl]
theorem mb_m_smooth (σ : mS) (t b x y : Nat) : mb (m_smooth σ t b) x y = mb σ x y := by
  unfold m_smooth
  dsimp only
  rw [m_for_keep (fun σ => mb σ x y) _ (fun j σ => mb_m_back σ t _ x y)]
  simp [mb_sl]
theorem mB_m_smooth (σ : mS) (t b x y z : Nat) : mB (m_smooth σ t b) x y z = mB σ x y z := by
  unfold m_smooth
  dsimp only
  rw [m_for_keep (fun σ => mB σ x y z) _ (fun j σ => mB_m_back σ t _ x y z)]
  simp [mB_sl]
theorem mb_m_bend (t n : Nat) (q : mS × Int64) (x y : Nat) : mb (m_bend t n q).1 x y = mb q.1 x y := by
  induction n with
  | zero => rfl
  | succ n ih => exact (mb_m_smooth _ _ _ _ _).trans ih
theorem mB_m_bend (t n : Nat) (q : mS × Int64) (x y z : Nat) : mB (m_bend t n q).1 x y z = mB q.1 x y z := by
  induction n with
  | zero => rfl
  | succ n ih => exact (mB_m_smooth _ _ _ _ _ _).trans ih
