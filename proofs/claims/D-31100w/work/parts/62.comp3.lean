/-! the component: Hit, Pair, Got (printed by gen/comp3.py) -/
set_option maxRecDepth 100000
theorem gp_J26_init : gPar yJ26_init 0 := ⟨⟨by decide, by decide⟩, by decide +kernel⟩
set_option maxHeartbeats 2000000 in
set_option maxRecDepth 100000 in
theorem met_J26_init (l : Launch) (K : gK) (G : gT) (a : Nat)  : gMet l K yJ26_init cJ26_init 1 (none) 1 40 0 0 [.ref (a)] G (fun w G1 => w = none ∧ G1 = G) := by
  refine gMet.of (by decide) (Nat.le_of_ble_eq_true rfl) (fun p e s m below meth c ls hx0 hb X hr hin hG hS hl => ?_)
  have hexec := hx0
  have X : gC K p s m _ meth c cJ26_init 1 "java/lang/Record" := X
  have hl : lv_has ls 1 [(0, .ref (a))] := hl
  have hF : gF (fun _ => True) G G := gF.rf
  refine lv_aload_n hexec hb dJ26_init_0 rfl (lv_at hl 0 rfl) ?_
  refine W.objInit hexec hb X.1.2.2.2.1 (X.1.2.2.2.2 _ q992) (X.1.2.2.2.2 _ q83) (X.1.2.2.2.2 _ q84) rfl (X.1.2.2.1.trans hl.1.symm).symm rfl dJ26_init_1 (Nat.le_of_ble_eq_true rfl) (Nat.le_of_ble_eq_true rfl) ?_
  exact g_vret X hr hG hS ⟨rfl, rfl⟩ (Nat.le_of_ble_eq_true rfl) (Nat.le_of_ble_eq_true rfl) dJ26_init_4
set_option maxHeartbeats 2000000 in
set_option maxRecDepth 100000 in
theorem met_X3_init (l : Launch) (K : gK) (G : gT) (τ q : Nat) (se pl : Int32) (hq0 : G q = some (τ, .inr (2, [.int (0), .int (0), .int (0)])))  : gMet l K yX3_init cX3_init 3 (none) 1 40 0 0 [.ref (q), .int (se), .int (pl)] G (fun w G1 => w = none ∧ G1 q = some (τ, .inr (2, [.int (se), .int (pl), .int ((-1))])) ∧ ∀ b, b ≠ q → G1 b = G b) := by
  refine gMet.of (by decide) (Nat.le_of_ble_eq_true rfl) (fun p e s m below meth c ls hx0 hb X hr hin hG hS hl => ?_)
  have hexec := hx0
  have X : gC K p s m _ meth c cX3_init 3 "KalmanQuay$Hit" := X
  have hl : lv_has ls 3 [(0, .ref (q)), (1, .int (se)), (2, .int (pl))] := hl
  have hU : ∀ b, b ≠ q → G b = G b := fun _ _ => rfl
  have hF : gF (fun _ => True) G G := gF.rf
  refine lv_aload_n hexec hb dX3_init_0 rfl (lv_at hl 0 rfl) ?_
  refine W.objInit hexec hb X.1.2.2.2.1 (X.1.2.2.2.2 _ q475) (X.1.2.2.2.2 _ q83) (X.1.2.2.2.2 _ q84) rfl (X.1.2.2.1.trans hl.1.symm).symm rfl dX3_init_1 (Nat.le_of_ble_eq_true rfl) (Nat.le_of_ble_eq_true rfl) ?_
  refine lv_aload_n hexec hb dX3_init_4 rfl (lv_at hl 0 rfl) ?_
  refine lv_iconst (v := (-1)) hexec hb dX3_init_5 (by decide) ?_
  refine g_put X hG hS hq0 (ci := 2) rfl in_X3 tyX3 tyX3_ok nmX3 2 (by decide) q480 (fun _ h => h) rfl rfl rfl (fs1 := [.int (0), .int (0), .int ((-1))]) (Nat.le_of_ble_eq_true rfl) rfl dX3_init_6 (fun H locs hG hS => ?_)
  obtain ⟨G_2, hG, hx, hu, h_new⟩ : ∃ G1, gH K G1 H ∧ gF (fun t => t = τ) G G1 ∧ (∀ b, b ≠ q → G1 b = G b) ∧ G1 q = some (τ, .inr (2, [.int (0), .int (0), .int ((-1))])) := ⟨_, hG, gF.putO hq0 rfl, fun b hb => gU_ne hb, gU_self⟩
  have hF := hF.trans (hx.mono (fun t h => trivial))
  have hU := fun b hb => (hu b hb).trans (hU b hb)
  have hq0 := h_new
  clear h_new
  refine lv_aload_n hexec hb dX3_init_9 rfl (lv_at hl 0 rfl) ?_
  refine lv_iload_n hexec hb dX3_init_10 rfl (lv_at hl 1 rfl) ?_
  refine g_putF X hG hS hin hq0 (ci := 2) rfl in_X3 tyX3 tyX3_ok nmX3 0 (by decide) q476 (fun _ h => h) rfl rfl rfl rfl (fs1 := [.int (se), .int (0), .int ((-1))]) (Nat.le_of_ble_eq_true rfl) rfl dX3_init_11 (fun H locs hG hS => ?_)
  obtain ⟨G_4, hG, hx, hu, h_new⟩ : ∃ G1, gH K G1 H ∧ gF (fun t => t = τ) G_2 G1 ∧ (∀ b, b ≠ q → G1 b = G_2 b) ∧ G1 q = some (τ, .inr (2, [.int (se), .int (0), .int ((-1))])) := ⟨_, hG, gF.putO hq0 rfl, fun b hb => gU_ne hb, gU_self⟩
  have hF := hF.trans (hx.mono (fun t h => trivial))
  have hU := fun b hb => (hu b hb).trans (hU b hb)
  have hq0 := h_new
  clear h_new
  refine lv_aload_n hexec hb dX3_init_14 rfl (lv_at hl 0 rfl) ?_
  refine lv_iload_n hexec hb dX3_init_15 rfl (lv_at hl 2 rfl) ?_
  refine g_putF X hG hS hin hq0 (ci := 2) rfl in_X3 tyX3 tyX3_ok nmX3 1 (by decide) q478 (fun _ h => h) rfl rfl rfl rfl (fs1 := [.int (se), .int (pl), .int ((-1))]) (Nat.le_of_ble_eq_true rfl) rfl dX3_init_16 (fun H locs hG hS => ?_)
  obtain ⟨G_6, hG, hx, hu, h_new⟩ : ∃ G1, gH K G1 H ∧ gF (fun t => t = τ) G_4 G1 ∧ (∀ b, b ≠ q → G1 b = G_4 b) ∧ G1 q = some (τ, .inr (2, [.int (se), .int (pl), .int ((-1))])) := ⟨_, hG, gF.putO hq0 rfl, fun b hb => gU_ne hb, gU_self⟩
  have hF := hF.trans (hx.mono (fun t h => trivial))
  have hU := fun b hb => (hu b hb).trans (hU b hb)
  have hq0 := h_new
  clear h_new
  exact g_vret X hr hG hS ⟨rfl, hq0, hU⟩ (Nat.le_of_ble_eq_true rfl) (Nat.le_of_ble_eq_true rfl) dX3_init_19
set_option maxHeartbeats 2000000 in
set_option maxRecDepth 100000 in
theorem met_X5_init (l : Launch) (K : gK) (G : gT) (τ q : Nat) (tr hi : Int32) (hq0 : G q = some (τ, .inr (4, [.int (0), .int (0)])))  : gMet l K yX5_init cX5_init 3 (none) 1 40 0 0 [.ref (q), .int (tr), .int (hi)] G (fun w G1 => w = none ∧ G1 q = some (τ, .inr (4, [.int (tr), .int (hi)])) ∧ ∀ b, b ≠ q → G1 b = G b) := by
  refine gMet.of (by decide) (Nat.le_of_ble_eq_true rfl) (fun p e s m below meth c ls hx0 hb X hr hin hG hS hl => ?_)
  have hexec := hx0
  have X : gC K p s m _ meth c cX5_init 3 "KalmanQuay$Pair" := X
  have hl : lv_has ls 3 [(0, .ref (q)), (1, .int (tr)), (2, .int (hi))] := hl
  have hU : ∀ b, b ≠ q → G b = G b := fun _ _ => rfl
  have hF : gF (fun _ => True) G G := gF.rf
  refine lv_aload_n hexec hb dX5_init_0 rfl (lv_at hl 0 rfl) ?_
  refine W.objInit hexec hb X.1.2.2.2.1 (X.1.2.2.2.2 _ q620) (X.1.2.2.2.2 _ q83) (X.1.2.2.2.2 _ q84) rfl (X.1.2.2.1.trans hl.1.symm).symm rfl dX5_init_1 (Nat.le_of_ble_eq_true rfl) (Nat.le_of_ble_eq_true rfl) ?_
  refine lv_aload_n hexec hb dX5_init_4 rfl (lv_at hl 0 rfl) ?_
  refine lv_iload_n hexec hb dX5_init_5 rfl (lv_at hl 1 rfl) ?_
  refine g_putF X hG hS hin hq0 (ci := 4) rfl in_X5 tyX5 tyX5_ok nmX5 0 (by decide) q621 (fun _ h => h) rfl rfl rfl rfl (fs1 := [.int (tr), .int (0)]) (Nat.le_of_ble_eq_true rfl) rfl dX5_init_6 (fun H locs hG hS => ?_)
  obtain ⟨G_2, hG, hx, hu, h_new⟩ : ∃ G1, gH K G1 H ∧ gF (fun t => t = τ) G G1 ∧ (∀ b, b ≠ q → G1 b = G b) ∧ G1 q = some (τ, .inr (4, [.int (tr), .int (0)])) := ⟨_, hG, gF.putO hq0 rfl, fun b hb => gU_ne hb, gU_self⟩
  have hF := hF.trans (hx.mono (fun t h => trivial))
  have hU := fun b hb => (hu b hb).trans (hU b hb)
  have hq0 := h_new
  clear h_new
  refine lv_aload_n hexec hb dX5_init_9 rfl (lv_at hl 0 rfl) ?_
  refine lv_iload_n hexec hb dX5_init_10 rfl (lv_at hl 2 rfl) ?_
  refine g_putF X hG hS hin hq0 (ci := 4) rfl in_X5 tyX5 tyX5_ok nmX5 1 (by decide) q622 (fun _ h => h) rfl rfl rfl rfl (fs1 := [.int (tr), .int (hi)]) (Nat.le_of_ble_eq_true rfl) rfl dX5_init_11 (fun H locs hG hS => ?_)
  obtain ⟨G_4, hG, hx, hu, h_new⟩ : ∃ G1, gH K G1 H ∧ gF (fun t => t = τ) G_2 G1 ∧ (∀ b, b ≠ q → G1 b = G_2 b) ∧ G1 q = some (τ, .inr (4, [.int (tr), .int (hi)])) := ⟨_, hG, gF.putO hq0 rfl, fun b hb => gU_ne hb, gU_self⟩
  have hF := hF.trans (hx.mono (fun t h => trivial))
  have hU := fun b hb => (hu b hb).trans (hU b hb)
  have hq0 := h_new
  clear h_new
  exact g_vret X hr hG hS ⟨rfl, hq0, hU⟩ (Nat.le_of_ble_eq_true rfl) (Nat.le_of_ble_eq_true rfl) dX5_init_14
set_option maxHeartbeats 2000000 in
set_option maxRecDepth 100000 in
theorem met_X7_init (l : Launch) (K : gK) (G : gT) (τ q : Nat) (be pl : Int32) (we : Int64) (hq0 : G q = some (τ, .inr (6, [.int (0), .int (0), .long (0)])))  : gMet l K yX7_init cX7_init 5 (none) 2 76 0 0 [.ref (q), .int (be), .int (pl), .long (we)] G (fun w G1 => w = none ∧ G1 q = some (τ, .inr (6, [.int (be), .int (pl), .long (we)])) ∧ ∀ b, b ≠ q → G1 b = G b) := by
  refine gMet.of (by decide) (Nat.le_of_ble_eq_true rfl) (fun p e s m below meth c ls hx0 hb X hr hin hG hS hl => ?_)
  have hexec := hx0
  have X : gC K p s m _ meth c cX7_init 5 "KalmanQuay$Got" := X
  have hl : lv_has ls 5 [(0, .ref (q)), (1, .int (be)), (2, .int (pl)), (3, .long (we))] := hl
  have hU : ∀ b, b ≠ q → G b = G b := fun _ _ => rfl
  have hF : gF (fun _ => True) G G := gF.rf
  refine lv_aload_n hexec hb dX7_init_0 rfl (lv_at hl 0 rfl) ?_
  refine g_callI X (met_J26_init l K G q) gp_J26_init rfl rfl q989 q990 q73 q991 hG hS hl ⟨Nat.le_of_ble_eq_true rfl, Nat.le_of_ble_eq_true rfl⟩ ⟨(Nat.le_of_ble_eq_true rfl), (Nat.le_of_ble_eq_true rfl)⟩ (rest := []) (Nat.le_of_ble_eq_true rfl) rfl dX7_init_1 (fun w G_1 H locs hp hG hS => ?_)
  obtain ⟨rfl, hge⟩ := hp
  rw [hge] at hG
  clear hge
  refine W.eq (g2 := F0 m 4 ls []) rfl ?_
  refine lv_aload_n hexec hb dX7_init_4 rfl (lv_at hl 0 rfl) ?_
  refine lv_iload_n hexec hb dX7_init_5 rfl (lv_at hl 1 rfl) ?_
  refine g_putF X hG hS hin hq0 (ci := 6) rfl in_X7 tyX7 tyX7_ok nmX7 0 (by decide) q993 (fun _ h => h) rfl rfl rfl rfl (fs1 := [.int (be), .int (0), .long (0)]) (Nat.le_of_ble_eq_true rfl) rfl dX7_init_6 (fun H locs hG hS => ?_)
  obtain ⟨G_3, hG, hx, hu, h_new⟩ : ∃ G1, gH K G1 H ∧ gF (fun t => t = τ) G G1 ∧ (∀ b, b ≠ q → G1 b = G b) ∧ G1 q = some (τ, .inr (6, [.int (be), .int (0), .long (0)])) := ⟨_, hG, gF.putO hq0 rfl, fun b hb => gU_ne hb, gU_self⟩
  have hF := hF.trans (hx.mono (fun t h => trivial))
  have hU := fun b hb => (hu b hb).trans (hU b hb)
  have hq0 := h_new
  clear h_new
  refine lv_aload_n hexec hb dX7_init_9 rfl (lv_at hl 0 rfl) ?_
  refine lv_iload_n hexec hb dX7_init_10 rfl (lv_at hl 2 rfl) ?_
  refine g_putF X hG hS hin hq0 (ci := 6) rfl in_X7 tyX7 tyX7_ok nmX7 1 (by decide) q994 (fun _ h => h) rfl rfl rfl rfl (fs1 := [.int (be), .int (pl), .long (0)]) (Nat.le_of_ble_eq_true rfl) rfl dX7_init_11 (fun H locs hG hS => ?_)
  obtain ⟨G_5, hG, hx, hu, h_new⟩ : ∃ G1, gH K G1 H ∧ gF (fun t => t = τ) G_3 G1 ∧ (∀ b, b ≠ q → G1 b = G_3 b) ∧ G1 q = some (τ, .inr (6, [.int (be), .int (pl), .long (0)])) := ⟨_, hG, gF.putO hq0 rfl, fun b hb => gU_ne hb, gU_self⟩
  have hF := hF.trans (hx.mono (fun t h => trivial))
  have hU := fun b hb => (hu b hb).trans (hU b hb)
  have hq0 := h_new
  clear h_new
  refine lv_aload_n hexec hb dX7_init_14 rfl (lv_at hl 0 rfl) ?_
  refine lv_lload_n hexec hb dX7_init_15 rfl (lv_at hl 3 rfl) ?_
  refine g_putF X hG hS hin hq0 (ci := 6) rfl in_X7 tyX7 tyX7_ok nmX7 2 (by decide) q995 (fun _ h => h) rfl rfl rfl rfl (fs1 := [.int (be), .int (pl), .long (we)]) (Nat.le_of_ble_eq_true rfl) rfl dX7_init_16 (fun H locs hG hS => ?_)
  obtain ⟨G_7, hG, hx, hu, h_new⟩ : ∃ G1, gH K G1 H ∧ gF (fun t => t = τ) G_5 G1 ∧ (∀ b, b ≠ q → G1 b = G_5 b) ∧ G1 q = some (τ, .inr (6, [.int (be), .int (pl), .long (we)])) := ⟨_, hG, gF.putO hq0 rfl, fun b hb => gU_ne hb, gU_self⟩
  have hF := hF.trans (hx.mono (fun t h => trivial))
  have hU := fun b hb => (hu b hb).trans (hU b hb)
  have hq0 := h_new
  clear h_new
  exact g_vret X hr hG hS ⟨rfl, hq0, hU⟩ (Nat.le_of_ble_eq_true rfl) (Nat.le_of_ble_eq_true rfl) dX7_init_19
set_option maxHeartbeats 2000000 in
set_option maxRecDepth 100000 in
theorem met_X7_beat (l : Launch) (K : gK) (G : gT) (a : Nat) (be pl : Int32) (we : Int64) (ha : G a = some (10000, .inr (6, [.int be, .int pl, .long we])))  : gMet l K yX7_beat cX7_beat 1 (some .int) 0 0 0 0 [.ref (a)] G (fun w G1 => w = some (.int be) ∧ G1 = G) := by
  refine gMet.of (by decide) (Nat.le_of_ble_eq_true rfl) (fun p e s m below meth c ls hx0 hb X hr hin hG hS hl => ?_)
  have hexec := hx0
  have X : gC K p s m _ meth c cX7_beat 1 "KalmanQuay$Got" := X
  have hl : lv_has ls 1 [(0, .ref (a))] := hl
  have hF : gF (fun _ => True) G G := gF.rf
  refine lv_aload_n hexec hb dX7_beat_0 rfl (lv_at hl 0 rfl) ?_
  refine g_get X hG ha (ci := 6) rfl in_X7 0 (by decide) q993 (fun _ h => h) rfl dX7_beat_1 ?_
  exact g_iret X hr hG hS ⟨rfl, rfl⟩ (Nat.le_of_ble_eq_true rfl) (Nat.le_of_ble_eq_true rfl) dX7_beat_4
set_option maxHeartbeats 2000000 in
set_option maxRecDepth 100000 in
theorem met_X7_place (l : Launch) (K : gK) (G : gT) (a : Nat) (be pl : Int32) (we : Int64) (ha : G a = some (10000, .inr (6, [.int be, .int pl, .long we])))  : gMet l K yX7_place cX7_place 1 (some .int) 0 0 0 0 [.ref (a)] G (fun w G1 => w = some (.int pl) ∧ G1 = G) := by
  refine gMet.of (by decide) (Nat.le_of_ble_eq_true rfl) (fun p e s m below meth c ls hx0 hb X hr hin hG hS hl => ?_)
  have hexec := hx0
  have X : gC K p s m _ meth c cX7_place 1 "KalmanQuay$Got" := X
  have hl : lv_has ls 1 [(0, .ref (a))] := hl
  have hF : gF (fun _ => True) G G := gF.rf
  refine lv_aload_n hexec hb dX7_place_0 rfl (lv_at hl 0 rfl) ?_
  refine g_get X hG ha (ci := 6) rfl in_X7 1 (by decide) q994 (fun _ h => h) rfl dX7_place_1 ?_
  exact g_iret X hr hG hS ⟨rfl, rfl⟩ (Nat.le_of_ble_eq_true rfl) (Nat.le_of_ble_eq_true rfl) dX7_place_4
set_option maxHeartbeats 2000000 in
set_option maxRecDepth 100000 in
theorem met_X7_weight (l : Launch) (K : gK) (G : gT) (a : Nat) (be pl : Int32) (we : Int64) (ha : G a = some (10000, .inr (6, [.int be, .int pl, .long we])))  : gMet l K yX7_weight cX7_weight 1 (some .long) 0 0 0 0 [.ref (a)] G (fun w G1 => w = some (.long we) ∧ G1 = G) := by
  refine gMet.of (by decide) (Nat.le_of_ble_eq_true rfl) (fun p e s m below meth c ls hx0 hb X hr hin hG hS hl => ?_)
  have hexec := hx0
  have X : gC K p s m _ meth c cX7_weight 1 "KalmanQuay$Got" := X
  have hl : lv_has ls 1 [(0, .ref (a))] := hl
  have hF : gF (fun _ => True) G G := gF.rf
  refine lv_aload_n hexec hb dX7_weight_0 rfl (lv_at hl 0 rfl) ?_
  refine g_get X hG ha (ci := 6) rfl in_X7 2 (by decide) q995 (fun _ h => h) rfl dX7_weight_1 ?_
  exact g_lret X hr hG hS ⟨rfl, rfl⟩ (Nat.le_of_ble_eq_true rfl) (Nat.le_of_ble_eq_true rfl) dX7_weight_4
