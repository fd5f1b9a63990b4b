/-! the search: what it leaves as it was (printed by gen/try_.py) -/
set_option maxRecDepth 100000
def m_tryB (r k : Nat) (used : Int32) (pairs : Nat) (cost : Int64) (i : Nat) (σ : mS) : mS := if m_freeB used i = true ∧ m_isInGate σ (mb σ 35 k) (mb σ 33 i) = true then m_try r (k + 1) (used ||| ((1 : Int32) <<< (nI i &&& 31))) (pairs + 1) (cost + m_costOf (sa σ 37 k (nI (mb σ 33 i))) (mb σ 35 k) (mb σ 33 i)) (sa σ 37 k (nI (mb σ 33 i))) else σ
def m_tryL (r k : Nat) (used : Int32) (pairs : Nat) (cost : Int64) (n : Nat) (σ : mS) : mS := m_for (m_tryB r k used pairs cost) n σ
theorem m_try_succ (r k : Nat) (used : Int32) (pairs : Nat) (cost : Int64) (σ : mS) : m_try (r + 1) k used pairs cost σ = m_try r (k + 1) used pairs cost (sa (m_tryL r k used pairs cost (mn σ 34) σ) 37 k (-1)) := rfl
theorem m_tryL_succ (r k : Nat) (used : Int32) (pairs : Nat) (cost : Int64) (n : Nat) (σ : mS) : m_tryL r k used pairs cost (n + 1) σ = m_tryB r k used pairs cost n (m_tryL r k used pairs cost n σ) := rfl
theorem mn_m_leaf (σ : mS) (pairs : Nat) (cost : Int64) (x : Nat)  : mn (m_leaf σ pairs cost) x = mn σ x := by
  unfold m_leaf
  split
  · rw [m_for_keep (fun τ => mn τ x) _ (fun i τ => by simp [mn_sa, mn_sz, mn_sl])]
    simp [mn_sa, mn_sz, mn_sl]
  · rfl
theorem mn_m_try (r : Nat) : ∀ (k : Nat) (used : Int32) (pairs : Nat) (cost : Int64) (σ : mS) (x : Nat) , mn (m_try r k used pairs cost σ) x = mn σ x := by
  induction r with
  | zero => exact fun k used pairs cost σ x  => mn_m_leaf σ pairs cost x 
  | succ r ih =>
    intro k used pairs cost σ x 
    rw [m_try_succ, ih _ _ _ _ _ x , m_tryL]
    refine Eq.trans (by simp [mn_sa, mn_sz, mn_sl]) (m_for_keep (fun τ => mn τ x) (m_tryB r k used pairs cost) (fun i τ => ?_) (mn σ 34) σ)
    unfold m_tryB
    split
    · rw [ih _ _ _ _ _ x ]
      simp [mn_sa, mn_sz, mn_sl]
    · rfl
theorem mn_m_tryL (r k : Nat) (used : Int32) (pairs : Nat) (cost : Int64) (n : Nat) (σ : mS) (x : Nat)  : mn (m_tryL r k used pairs cost n σ) x = mn σ x := by
  refine m_for_keep (fun τ => mn τ x) (m_tryB r k used pairs cost) (fun i τ => ?_) n σ
  unfold m_tryB
  split
  · rw [mn_m_try _ _ _ _ _ _ x ]
    simp [mn_sa, mn_sz, mn_sl]
  · rfl
theorem mz_m_leaf (σ : mS) (pairs : Nat) (cost : Int64) (x : Nat) (h39 : ¬ x = 39) : mz (m_leaf σ pairs cost) x = mz σ x := by
  unfold m_leaf
  split
  · rw [m_for_keep (fun τ => mz τ x) _ (fun i τ => by simp [mz_sa, mz_sz, mz_sl, h39])]
    simp [mz_sa, mz_sz, mz_sl, h39]
  · rfl
theorem mz_m_try (r : Nat) : ∀ (k : Nat) (used : Int32) (pairs : Nat) (cost : Int64) (σ : mS) (x : Nat) (h39 : ¬ x = 39), mz (m_try r k used pairs cost σ) x = mz σ x := by
  induction r with
  | zero => exact fun k used pairs cost σ x h39 => mz_m_leaf σ pairs cost x h39
  | succ r ih =>
    intro k used pairs cost σ x h39
    rw [m_try_succ, ih _ _ _ _ _ x h39, m_tryL]
    refine Eq.trans (by simp [mz_sa, mz_sz, mz_sl, h39]) (m_for_keep (fun τ => mz τ x) (m_tryB r k used pairs cost) (fun i τ => ?_) (mn σ 34) σ)
    unfold m_tryB
    split
    · rw [ih _ _ _ _ _ x h39]
      simp [mz_sa, mz_sz, mz_sl, h39]
    · rfl
theorem mz_m_tryL (r k : Nat) (used : Int32) (pairs : Nat) (cost : Int64) (n : Nat) (σ : mS) (x : Nat) (h39 : ¬ x = 39) : mz (m_tryL r k used pairs cost n σ) x = mz σ x := by
  refine m_for_keep (fun τ => mz τ x) (m_tryB r k used pairs cost) (fun i τ => ?_) n σ
  unfold m_tryB
  split
  · rw [mz_m_try _ _ _ _ _ _ x h39]
    simp [mz_sa, mz_sz, mz_sl, h39]
  · rfl
theorem ml_m_leaf (σ : mS) (pairs : Nat) (cost : Int64) (x : Nat) (h40 : ¬ x = 40) : ml (m_leaf σ pairs cost) x = ml σ x := by
  unfold m_leaf
  split
  · rw [m_for_keep (fun τ => ml τ x) _ (fun i τ => by simp [ml_sa, ml_sz, ml_sl, h40])]
    simp [ml_sa, ml_sz, ml_sl, h40]
  · rfl
theorem ml_m_try (r : Nat) : ∀ (k : Nat) (used : Int32) (pairs : Nat) (cost : Int64) (σ : mS) (x : Nat) (h40 : ¬ x = 40), ml (m_try r k used pairs cost σ) x = ml σ x := by
  induction r with
  | zero => exact fun k used pairs cost σ x h40 => ml_m_leaf σ pairs cost x h40
  | succ r ih =>
    intro k used pairs cost σ x h40
    rw [m_try_succ, ih _ _ _ _ _ x h40, m_tryL]
    refine Eq.trans (by simp [ml_sa, ml_sz, ml_sl, h40]) (m_for_keep (fun τ => ml τ x) (m_tryB r k used pairs cost) (fun i τ => ?_) (mn σ 34) σ)
    unfold m_tryB
    split
    · rw [ih _ _ _ _ _ x h40]
      simp [ml_sa, ml_sz, ml_sl, h40]
    · rfl
theorem ml_m_tryL (r k : Nat) (used : Int32) (pairs : Nat) (cost : Int64) (n : Nat) (σ : mS) (x : Nat) (h40 : ¬ x = 40) : ml (m_tryL r k used pairs cost n σ) x = ml σ x := by
  refine m_for_keep (fun τ => ml τ x) (m_tryB r k used pairs cost) (fun i τ => ?_) n σ
  unfold m_tryB
  split
  · rw [ml_m_try _ _ _ _ _ _ x h40]
    simp [ml_sa, ml_sz, ml_sl, h40]
  · rfl
theorem mb_m_leaf (σ : mS) (pairs : Nat) (cost : Int64) (x y : Nat)  : mb (m_leaf σ pairs cost) x y = mb σ x y := by
  unfold m_leaf
  split
  · rw [m_for_keep (fun τ => mb τ x y) _ (fun i τ => by simp [mb_sa, mb_sz, mb_sl])]
    simp [mb_sa, mb_sz, mb_sl]
  · rfl
theorem mb_m_try (r : Nat) : ∀ (k : Nat) (used : Int32) (pairs : Nat) (cost : Int64) (σ : mS) (x y : Nat) , mb (m_try r k used pairs cost σ) x y = mb σ x y := by
  induction r with
  | zero => exact fun k used pairs cost σ x y  => mb_m_leaf σ pairs cost x y 
  | succ r ih =>
    intro k used pairs cost σ x y 
    rw [m_try_succ, ih _ _ _ _ _ x y , m_tryL]
    refine Eq.trans (by simp [mb_sa, mb_sz, mb_sl]) (m_for_keep (fun τ => mb τ x y) (m_tryB r k used pairs cost) (fun i τ => ?_) (mn σ 34) σ)
    unfold m_tryB
    split
    · rw [ih _ _ _ _ _ x y ]
      simp [mb_sa, mb_sz, mb_sl]
    · rfl
theorem mb_m_tryL (r k : Nat) (used : Int32) (pairs : Nat) (cost : Int64) (n : Nat) (σ : mS) (x y : Nat)  : mb (m_tryL r k used pairs cost n σ) x y = mb σ x y := by
  refine m_for_keep (fun τ => mb τ x y) (m_tryB r k used pairs cost) (fun i τ => ?_) n σ
  unfold m_tryB
  split
  · rw [mb_m_try _ _ _ _ _ _ x y ]
    simp [mb_sa, mb_sz, mb_sl]
  · rfl
theorem ma_m_leaf (σ : mS) (pairs : Nat) (cost : Int64) (x y : Nat) (h37 : ¬ x = 37) (h38 : ¬ x = 38) : ma (m_leaf σ pairs cost) x y = ma σ x y := by
  unfold m_leaf
  split
  · rw [m_for_keep (fun τ => ma τ x y) _ (fun i τ => by simp [ma_sa, ma_sz, ma_sl, h37, h38])]
    simp [ma_sa, ma_sz, ma_sl, h37, h38]
  · rfl
theorem ma_m_try (r : Nat) : ∀ (k : Nat) (used : Int32) (pairs : Nat) (cost : Int64) (σ : mS) (x y : Nat) (h37 : ¬ x = 37) (h38 : ¬ x = 38), ma (m_try r k used pairs cost σ) x y = ma σ x y := by
  induction r with
  | zero => exact fun k used pairs cost σ x y h37 h38 => ma_m_leaf σ pairs cost x y h37 h38
  | succ r ih =>
    intro k used pairs cost σ x y h37 h38
    rw [m_try_succ, ih _ _ _ _ _ x y h37 h38, m_tryL]
    refine Eq.trans (by simp [ma_sa, ma_sz, ma_sl, h37, h38]) (m_for_keep (fun τ => ma τ x y) (m_tryB r k used pairs cost) (fun i τ => ?_) (mn σ 34) σ)
    unfold m_tryB
    split
    · rw [ih _ _ _ _ _ x y h37 h38]
      simp [ma_sa, ma_sz, ma_sl, h37, h38]
    · rfl
theorem ma_m_tryL (r k : Nat) (used : Int32) (pairs : Nat) (cost : Int64) (n : Nat) (σ : mS) (x y : Nat) (h37 : ¬ x = 37) (h38 : ¬ x = 38) : ma (m_tryL r k used pairs cost n σ) x y = ma σ x y := by
  refine m_for_keep (fun τ => ma τ x y) (m_tryB r k used pairs cost) (fun i τ => ?_) n σ
  unfold m_tryB
  split
  · rw [ma_m_try _ _ _ _ _ _ x y h37 h38]
    simp [ma_sa, ma_sz, ma_sl, h37, h38]
  · rfl
theorem mc_m_leaf (σ : mS) (pairs : Nat) (cost : Int64) (x y : Nat)  : mc (m_leaf σ pairs cost) x y = mc σ x y := by
  unfold m_leaf
  split
  · rw [m_for_keep (fun τ => mc τ x y) _ (fun i τ => by simp [mc_sa, mc_sz, mc_sl])]
    simp [mc_sa, mc_sz, mc_sl]
  · rfl
theorem mc_m_try (r : Nat) : ∀ (k : Nat) (used : Int32) (pairs : Nat) (cost : Int64) (σ : mS) (x y : Nat) , mc (m_try r k used pairs cost σ) x y = mc σ x y := by
  induction r with
  | zero => exact fun k used pairs cost σ x y  => mc_m_leaf σ pairs cost x y 
  | succ r ih =>
    intro k used pairs cost σ x y 
    rw [m_try_succ, ih _ _ _ _ _ x y , m_tryL]
    refine Eq.trans (by simp [mc_sa, mc_sz, mc_sl]) (m_for_keep (fun τ => mc τ x y) (m_tryB r k used pairs cost) (fun i τ => ?_) (mn σ 34) σ)
    unfold m_tryB
    split
    · rw [ih _ _ _ _ _ x y ]
      simp [mc_sa, mc_sz, mc_sl]
    · rfl
theorem mc_m_tryL (r k : Nat) (used : Int32) (pairs : Nat) (cost : Int64) (n : Nat) (σ : mS) (x y : Nat)  : mc (m_tryL r k used pairs cost n σ) x y = mc σ x y := by
  refine m_for_keep (fun τ => mc τ x y) (m_tryB r k used pairs cost) (fun i τ => ?_) n σ
  unfold m_tryB
  split
  · rw [mc_m_try _ _ _ _ _ _ x y ]
    simp [mc_sa, mc_sz, mc_sl]
  · rfl
theorem mj_m_leaf (σ : mS) (pairs : Nat) (cost : Int64) (x y : Nat)  : mj (m_leaf σ pairs cost) x y = mj σ x y := by
  unfold m_leaf
  split
  · rw [m_for_keep (fun τ => mj τ x y) _ (fun i τ => by simp [mj_sa, mj_sz, mj_sl])]
    simp [mj_sa, mj_sz, mj_sl]
  · rfl
theorem mj_m_try (r : Nat) : ∀ (k : Nat) (used : Int32) (pairs : Nat) (cost : Int64) (σ : mS) (x y : Nat) , mj (m_try r k used pairs cost σ) x y = mj σ x y := by
  induction r with
  | zero => exact fun k used pairs cost σ x y  => mj_m_leaf σ pairs cost x y 
  | succ r ih =>
    intro k used pairs cost σ x y 
    rw [m_try_succ, ih _ _ _ _ _ x y , m_tryL]
    refine Eq.trans (by simp [mj_sa, mj_sz, mj_sl]) (m_for_keep (fun τ => mj τ x y) (m_tryB r k used pairs cost) (fun i τ => ?_) (mn σ 34) σ)
    unfold m_tryB
    split
    · rw [ih _ _ _ _ _ x y ]
      simp [mj_sa, mj_sz, mj_sl]
    · rfl
theorem mj_m_tryL (r k : Nat) (used : Int32) (pairs : Nat) (cost : Int64) (n : Nat) (σ : mS) (x y : Nat)  : mj (m_tryL r k used pairs cost n σ) x y = mj σ x y := by
  refine m_for_keep (fun τ => mj τ x y) (m_tryB r k used pairs cost) (fun i τ => ?_) n σ
  unfold m_tryB
  split
  · rw [mj_m_try _ _ _ _ _ _ x y ]
    simp [mj_sa, mj_sz, mj_sl]
  · rfl
theorem mN_m_leaf (σ : mS) (pairs : Nat) (cost : Int64) (x y : Nat)  : mN (m_leaf σ pairs cost) x y = mN σ x y := by
  unfold m_leaf
  split
  · rw [m_for_keep (fun τ => mN τ x y) _ (fun i τ => by simp [mN_sa, mN_sz, mN_sl])]
    simp [mN_sa, mN_sz, mN_sl]
  · rfl
theorem mN_m_try (r : Nat) : ∀ (k : Nat) (used : Int32) (pairs : Nat) (cost : Int64) (σ : mS) (x y : Nat) , mN (m_try r k used pairs cost σ) x y = mN σ x y := by
  induction r with
  | zero => exact fun k used pairs cost σ x y  => mN_m_leaf σ pairs cost x y 
  | succ r ih =>
    intro k used pairs cost σ x y 
    rw [m_try_succ, ih _ _ _ _ _ x y , m_tryL]
    refine Eq.trans (by simp [mN_sa, mN_sz, mN_sl]) (m_for_keep (fun τ => mN τ x y) (m_tryB r k used pairs cost) (fun i τ => ?_) (mn σ 34) σ)
    unfold m_tryB
    split
    · rw [ih _ _ _ _ _ x y ]
      simp [mN_sa, mN_sz, mN_sl]
    · rfl
theorem mN_m_tryL (r k : Nat) (used : Int32) (pairs : Nat) (cost : Int64) (n : Nat) (σ : mS) (x y : Nat)  : mN (m_tryL r k used pairs cost n σ) x y = mN σ x y := by
  refine m_for_keep (fun τ => mN τ x y) (m_tryB r k used pairs cost) (fun i τ => ?_) n σ
  unfold m_tryB
  split
  · rw [mN_m_try _ _ _ _ _ _ x y ]
    simp [mN_sa, mN_sz, mN_sl]
  · rfl
theorem mB_m_leaf (σ : mS) (pairs : Nat) (cost : Int64) (x y z : Nat)  : mB (m_leaf σ pairs cost) x y z = mB σ x y z := by
  unfold m_leaf
  split
  · rw [m_for_keep (fun τ => mB τ x y z) _ (fun i τ => by simp [mB_sa, mB_sz, mB_sl])]
    simp [mB_sa, mB_sz, mB_sl]
  · rfl
theorem mB_m_try (r : Nat) : ∀ (k : Nat) (used : Int32) (pairs : Nat) (cost : Int64) (σ : mS) (x y z : Nat) , mB (m_try r k used pairs cost σ) x y z = mB σ x y z := by
  induction r with
  | zero => exact fun k used pairs cost σ x y z  => mB_m_leaf σ pairs cost x y z 
  | succ r ih =>
    intro k used pairs cost σ x y z 
    rw [m_try_succ, ih _ _ _ _ _ x y z , m_tryL]
    refine Eq.trans (by simp [mB_sa, mB_sz, mB_sl]) (m_for_keep (fun τ => mB τ x y z) (m_tryB r k used pairs cost) (fun i τ => ?_) (mn σ 34) σ)
    unfold m_tryB
    split
    · rw [ih _ _ _ _ _ x y z ]
      simp [mB_sa, mB_sz, mB_sl]
    · rfl
theorem mB_m_tryL (r k : Nat) (used : Int32) (pairs : Nat) (cost : Int64) (n : Nat) (σ : mS) (x y z : Nat)  : mB (m_tryL r k used pairs cost n σ) x y z = mB σ x y z := by
  refine m_for_keep (fun τ => mB τ x y z) (m_tryB r k used pairs cost) (fun i τ => ?_) n σ
  unfold m_tryB
  split
  · rw [mB_m_try _ _ _ _ _ _ x y z ]
    simp [mB_sa, mB_sz, mB_sl]
  · rfl
theorem mF_m_leaf (σ : mS) (pairs : Nat) (cost : Int64) (x y z : Nat)  : mF (m_leaf σ pairs cost) x y z = mF σ x y z := by
  unfold m_leaf
  split
  · rw [m_for_keep (fun τ => mF τ x y z) _ (fun i τ => by simp [mF_sa, mF_sz, mF_sl])]
    simp [mF_sa, mF_sz, mF_sl]
  · rfl
theorem mF_m_try (r : Nat) : ∀ (k : Nat) (used : Int32) (pairs : Nat) (cost : Int64) (σ : mS) (x y z : Nat) , mF (m_try r k used pairs cost σ) x y z = mF σ x y z := by
  induction r with
  | zero => exact fun k used pairs cost σ x y z  => mF_m_leaf σ pairs cost x y z 
  | succ r ih =>
    intro k used pairs cost σ x y z 
    rw [m_try_succ, ih _ _ _ _ _ x y z , m_tryL]
    refine Eq.trans (by simp [mF_sa, mF_sz, mF_sl]) (m_for_keep (fun τ => mF τ x y z) (m_tryB r k used pairs cost) (fun i τ => ?_) (mn σ 34) σ)
    unfold m_tryB
    split
    · rw [ih _ _ _ _ _ x y z ]
      simp [mF_sa, mF_sz, mF_sl]
    · rfl
theorem mF_m_tryL (r k : Nat) (used : Int32) (pairs : Nat) (cost : Int64) (n : Nat) (σ : mS) (x y z : Nat)  : mF (m_tryL r k used pairs cost n σ) x y z = mF σ x y z := by
  refine m_for_keep (fun τ => mF τ x y z) (m_tryB r k used pairs cost) (fun i τ => ?_) n σ
  unfold m_tryB
  split
  · rw [mF_m_try _ _ _ _ _ _ x y z ]
    simp [mF_sa, mF_sz, mF_sl]
  · rfl
def m_leafL (σ : mS) (n : Nat) : mS := m_for (fun i τ => sa τ 38 i (ma τ 37 i)) n σ
theorem m_leafL_succ (σ : mS) (n : Nat) : m_leafL σ (n + 1) = sa (m_leafL σ n) 38 n (ma (m_leafL σ n) 37 n) := rfl
theorem mn_m_leafL (σ : mS) (n x : Nat) : mn (m_leafL σ n) x = mn σ x := m_for_keep (fun τ => mn τ x) _ (fun i τ => by simp [mn_sa]) n σ
theorem mb_m_leafL (σ : mS) (n x y : Nat) : mb (m_leafL σ n) x y = mb σ x y := m_for_keep (fun τ => mb τ x y) _ (fun i τ => by simp [mb_sa]) n σ
theorem mz_m_leafL (σ : mS) (n x : Nat) : mz (m_leafL σ n) x = mz σ x := m_for_keep (fun τ => mz τ x) _ (fun i τ => by simp [mz_sa]) n σ
theorem ma_m_leafL (σ : mS) (n x y : Nat) (h38 : ¬ x = 38) : ma (m_leafL σ n) x y = ma σ x y := m_for_keep (fun τ => ma τ x y) _ (fun i τ => by simp [ma_sa, h38]) n σ
/-- what the search needs -/
def tV (σ : mS) : Prop := mn σ 36 ≤ 6 ∧ mn σ 34 ≤ 8 ∧ (∀ i, i < mn σ 34 → mb σ 33 i < 8 ∧ mb σ 9 (mb σ 33 i) < 4) ∧ (∀ k, k < mn σ 36 → mb σ 35 k < 40) ∧ ∀ k, k < mn σ 36 → ∀ i, i < mn σ 34 → ¬ m_spread σ (mb σ 35 k) (mb σ 9 (mb σ 33 i)) = 0
theorem tV_keep {σ τ : mS} (h : tV σ) (h1 : ∀ x, mn τ x = mn σ x) (h2 : ∀ x y, mb τ x y = mb σ x y) (h3 : ∀ x y, mN τ x y = mN σ x y) (h4 : ∀ y, ma τ 6 y = ma σ 6 y) : tV τ := by
  obtain ⟨a, b, c, d, e⟩ := h
  refine ⟨by rw [h1]; exact a, by rw [h1]; exact b, fun i hi => ?_, fun k hk => ?_, fun k hk i hi => ?_⟩
  · rw [h2, h2]; exact c i (by rw [h1] at hi; exact hi)
  · rw [h2]; exact d k (by rw [h1] at hk; exact hk)
  · rw [h2, h2, h2, m_spread, h3, h4]; exact e k (by rw [h1] at hk; exact hk) i (by rw [h1] at hi; exact hi)
theorem tV_sa {σ : mS} (h : tV σ) (k : Nat) (v : Int32) : tV (sa σ 37 k v) := tV_keep h (fun x => mn_sa _ _ _ _ _) (fun x y => mb_sa _ _ _ _ _ _) (fun x y => mN_sa _ _ _ _ _ _) (fun y => by simp [ma_sa])
theorem tV_L {σ : mS} (h : tV σ) (r k : Nat) (used : Int32) (pairs : Nat) (cost : Int64) (n : Nat) : tV (m_tryL r k used pairs cost n σ) := tV_keep h (fun x => mn_m_tryL _ _ _ _ _ _ _ _) (fun x y => mb_m_tryL _ _ _ _ _ _ _ _ _) (fun x y => mN_m_tryL _ _ _ _ _ _ _ _ _) (fun y => ma_m_tryL _ _ _ _ _ _ _ _ _ (by decide) (by decide))
