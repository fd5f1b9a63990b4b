/-! the component: State (printed by gen/comp1.py) -/
set_option maxRecDepth 100000
theorem gp_X1_held : gPar yX1_held 3 := ⟨⟨by decide, by decide⟩, by decide +kernel⟩
/-- a filter's numbers as the component holds them -/
abbrev stO (u : Nat → Int64) : va_E := .inr (3, [.int (u 0).toInt32, .int (u 1).toInt32, .int (u 2).toInt32, .int (u 3).toInt32, .int (u 4).toInt32])
def s_held (x v a b d : Int64) (k : Nat) : Int64 := if k = 0 then l_hold x (-33554432) 33554432 else if k = 1 then l_hold v (-16777216) 16777216 else if k = 2 then l_hold a 1 16777216 else if k = 3 then l_hold b (-16777216) 16777216 else l_hold d 1 16777216
/-- its numbers are small -/
def sok (u : Nat → Int64) : Prop := ∀ k, k < 5 → (u k).toInt32.toInt64 = u k
theorem small_int {x : Int64} (h1 : -33554432 ≤ x) (h2 : x ≤ 33554432) : x.toInt32.toInt64 = x := by
  have a1 := Int64.le_iff_toInt_le.mp h1
  have a2 := Int64.le_iff_toInt_le.mp h2
  have e1 : (-33554432 : Int64).toInt = -33554432 := rfl
  have e2 : (33554432 : Int64).toInt = 33554432 := rfl
  rw [e1] at a1
  rw [e2] at a2
  apply Int64.toInt_inj.mp
  rw [Int32.toInt_toInt64, Int64.toInt_toInt32, Int.bmod_eq_of_le (by omega) (by omega)]
theorem l_hold_small {v lo hi : Int64} (h : lo ≤ hi) (h1 : -33554432 ≤ lo) (h2 : hi ≤ 33554432) : (l_hold v lo hi).toInt32.toInt64 = l_hold v lo hi := by
  have := l_hold_le (v := v) h
  exact small_int (Int64.le_trans h1 this.1) (Int64.le_trans this.2 h2)
theorem sok_held (x v a b d : Int64) : sok (s_held x v a b d) := by
  have c1 : (-33554432 : Int64) ≤ 33554432 := by decide +kernel
  have c2 : (-16777216 : Int64) ≤ 16777216 := by decide +kernel
  have c3 : (1 : Int64) ≤ 16777216 := by decide +kernel
  have c4 : (-33554432 : Int64) ≤ -33554432 := by decide +kernel
  have c5 : (-33554432 : Int64) ≤ -16777216 := by decide +kernel
  have c6 : (-33554432 : Int64) ≤ 1 := by decide +kernel
  have c7 : (33554432 : Int64) ≤ 33554432 := by decide +kernel
  have c8 : (16777216 : Int64) ≤ 33554432 := by decide +kernel
  intro k hk
  unfold s_held
  split
  · exact l_hold_small c1 c4 c7
  · split
    · exact l_hold_small c2 c5 c8
    · split
      · exact l_hold_small c3 c6 c8
      · split
        · exact l_hold_small c2 c5 c8
        · exact l_hold_small c3 c6 c8
theorem sh0 (x v a b d : Int64) : s_held x v a b d 0 = l_hold x (-33554432) 33554432 := if_pos rfl
theorem sh1 (x v a b d : Int64) : s_held x v a b d 1 = l_hold v (-16777216) 16777216 := (if_neg (by decide)).trans (if_pos rfl)
theorem sh2 (x v a b d : Int64) : s_held x v a b d 2 = l_hold a 1 16777216 := (if_neg (by decide)).trans ((if_neg (by decide)).trans (if_pos rfl))
theorem sh3 (x v a b d : Int64) : s_held x v a b d 3 = l_hold b (-16777216) 16777216 := (if_neg (by decide)).trans ((if_neg (by decide)).trans ((if_neg (by decide)).trans (if_pos rfl)))
theorem sh4 (x v a b d : Int64) : s_held x v a b d 4 = l_hold d 1 16777216 := (if_neg (by decide)).trans ((if_neg (by decide)).trans ((if_neg (by decide)).trans (if_neg (by decide))))
theorem held_x (v : Int64) : (l_hold v (-33554432 : Int32).toInt64 (33554432 : Int32).toInt64).toInt32 = (l_hold v (-33554432) 33554432).toInt32 := by
  rw [show (-33554432 : Int32).toInt64 = -33554432 by decide +kernel, show (33554432 : Int32).toInt64 = 33554432 by decide +kernel]
theorem held_v (v : Int64) : (l_hold v (-16777216 : Int32).toInt64 (16777216 : Int32).toInt64).toInt32 = (l_hold v (-16777216) 16777216).toInt32 := by
  rw [show (-16777216 : Int32).toInt64 = -16777216 by decide +kernel, show (16777216 : Int32).toInt64 = 16777216 by decide +kernel]
theorem held_a (v : Int64) : (l_hold v (1 : Int32).toInt64 (16777216 : Int32).toInt64).toInt32 = (l_hold v 1 16777216).toInt32 := by
  rw [show (1 : Int32).toInt64 = 1 by decide +kernel, show (16777216 : Int32).toInt64 = 16777216 by decide +kernel]
set_option maxHeartbeats 2000000 in
set_option maxRecDepth 100000 in
theorem met_X1_held (l : Launch) (K : gK) (G : gT) (v : Int64) (lo hi : Int32)  : gMet l K yX1_held cX1_held 4 (some .int) 1 40 0 0 [.long (v), .int (lo), .int (hi)] G (fun w G1 => w = some (.int (l_hold v lo.toInt64 hi.toInt64).toInt32) ∧ G1 = G) := by
  refine gMet.of (by decide) (Nat.le_of_ble_eq_true rfl) (fun p e s m below meth c ls hx0 hb X hr hin hG hS hl => ?_)
  have hexec := hx0
  have X : gC K p s m _ meth c cX1_held 4 "KalmanQuay" := X
  have hl : lv_has ls 4 [(0, .long (v)), (2, .int (lo)), (3, .int (hi))] := hl
  have hF : gF (fun _ => True) G G := gF.rf
  refine lv_iload_n hexec hb dX1_held_0 rfl (lv_at hl 1 rfl) ?_
  refine lv_i2l hexec hb dX1_held_1 rfl ?_
  refine lv_iload_n hexec hb dX1_held_2 rfl (lv_at hl 2 rfl) ?_
  refine lv_i2l hexec hb dX1_held_3 rfl ?_
  refine lv_lload_n hexec hb dX1_held_4 rfl (lv_at hl 0 rfl) ?_
  refine va_mmin_long hexec hb (X.1.2.2.1.trans hl.1.symm) X.1.2.2.2.1 (X.1.2.2.2.2 _ q566) (X.1.2.2.2.2 _ q567) (X.1.2.2.2.2 _ q52) (X.1.2.2.2.2 _ q568) (Nat.le_of_ble_eq_true rfl) (Nat.le_of_ble_eq_true rfl) (Nat.le_of_ble_eq_true rfl) (Nat.le_of_ble_eq_true rfl) dX1_held_5 ?_
  refine W.eq (g2 := F0 m 8 ls [.long (l_min hi.toInt64 v), .long (lo.toInt64)]) rfl ?_
  refine va_mmax_long hexec hb (X.1.2.2.1.trans hl.1.symm) X.1.2.2.2.1 (X.1.2.2.2.2 _ q569) (X.1.2.2.2.2 _ q570) (X.1.2.2.2.2 _ q52) (X.1.2.2.2.2 _ q571) (Nat.le_of_ble_eq_true rfl) (Nat.le_of_ble_eq_true rfl) (Nat.le_of_ble_eq_true rfl) (Nat.le_of_ble_eq_true rfl) dX1_held_8 ?_
  refine W.eq (g2 := F0 m 11 ls [.long (l_max lo.toInt64 (l_min hi.toInt64 v))]) rfl ?_
  refine lv_l2i hexec hb dX1_held_11 rfl ?_
  exact g_iret X hr hG hS ⟨rfl, rfl⟩ (Nat.le_of_ble_eq_true rfl) (Nat.le_of_ble_eq_true rfl) dX1_held_12
set_option maxHeartbeats 2000000 in
set_option maxRecDepth 100000 in
theorem met_X4_init (l : Launch) (K : gK) (G : gT) (τ q : Nat) (x v a b d : Int64) (hq0 : G q = some (τ, .inr (3, [.int 0, .int 0, .int 0, .int 0, .int 0])))  : gMet l K yX4_init cX4_init 11 (none) 2 79 0 0 [.ref (q), .long (x), .long (v), .long (a), .long (b), .long (d)] G (fun w G1 => w = none ∧ G1 q = some (τ, stO (s_held x v a b d)) ∧ ∀ b, b ≠ q → G1 b = G b) := by
  refine gMet.of (by decide) (Nat.le_of_ble_eq_true rfl) (fun p e s m below meth c ls hx0 hb X hr hin hG hS hl => ?_)
  have hexec := hx0
  have X : gC K p s m _ meth c cX4_init 11 "KalmanQuay$State" := X
  have hl : lv_has ls 11 [(0, .ref (q)), (1, .long (x)), (3, .long (v)), (5, .long (a)), (7, .long (b)), (9, .long (d))] := hl
  have hU : ∀ b, b ≠ q → G b = G b := fun _ _ => rfl
  have hF : gF (fun _ => True) G G := gF.rf
  refine lv_aload_n hexec hb dX4_init_0 rfl (lv_at hl 0 rfl) ?_
  refine W.objInit hexec hb X.1.2.2.2.1 (X.1.2.2.2.2 _ q560) (X.1.2.2.2.2 _ q83) (X.1.2.2.2.2 _ q84) rfl (X.1.2.2.1.trans hl.1.symm).symm rfl dX4_init_1 (Nat.le_of_ble_eq_true rfl) (Nat.le_of_ble_eq_true rfl) ?_
  refine lv_aload_n hexec hb dX4_init_4 rfl (lv_at hl 0 rfl) ?_
  refine lv_lload_n hexec hb dX4_init_5 rfl (lv_at hl 1 rfl) ?_
  refine lv_ldc (v := (-33554432)) hexec hb X.1.2.2.2.1 (X.1.2.2.2.2 _ q561) dX4_init_6 ?_
  refine lv_ldc (v := 33554432) hexec hb X.1.2.2.2.1 (X.1.2.2.2.2 _ q562) dX4_init_8 ?_
  refine g_callSN X (met_X1_held l K G x (-33554432) 33554432) gp_X1_held rfl X.2.1.2.2.2.1.2.2.2.2.2.1 q564 q38 q565 hG hS hl ⟨Nat.le_of_ble_eq_true rfl, Nat.le_of_ble_eq_true rfl⟩ ⟨(Nat.le_of_ble_eq_true rfl), (Nat.le_of_ble_eq_true rfl)⟩ (rest := [.ref (q)]) (Nat.le_of_ble_eq_true rfl) rfl dX4_init_10 (fun w G_1 H locs hp hG hS => ?_)
  obtain ⟨rfl, hge⟩ := hp
  rw [hge] at hG
  clear hge
  refine g_topE (z := (l_hold x (-33554432) 33554432).toInt32) (held_x x) ?_
  refine W.eq (g2 := F0 m 13 ls [.int ((l_hold x (-33554432) 33554432).toInt32), .ref (q)]) rfl ?_
  refine g_putF X hG hS hin hq0 (ci := 3) rfl in_X4 tyX4 tyX4_ok nmX4 0 (by decide) q574 (fun _ h => h) rfl rfl rfl rfl (fs1 := [.int ((l_hold x (-33554432) 33554432).toInt32), .int (0), .int (0), .int (0), .int (0)]) (Nat.le_of_ble_eq_true rfl) rfl dX4_init_13 (fun H locs hG hS => ?_)
  obtain ⟨G_3, hG, hx, hu, h_new⟩ : ∃ G1, gH K G1 H ∧ gF (fun t => t = τ) G G1 ∧ (∀ b, b ≠ q → G1 b = G b) ∧ G1 q = some (τ, .inr (3, [.int ((l_hold x (-33554432) 33554432).toInt32), .int (0), .int (0), .int (0), .int (0)])) := ⟨_, hG, gF.putO hq0 rfl, fun b hb => gU_ne hb, gU_self⟩
  have hF := hF.trans (hx.mono (fun t h => trivial))
  have hU := fun b hb => (hu b hb).trans (hU b hb)
  have hq0 := h_new
  clear h_new
  refine lv_aload_n hexec hb dX4_init_16 rfl (lv_at hl 0 rfl) ?_
  refine lv_lload_n hexec hb dX4_init_17 rfl (lv_at hl 2 rfl) ?_
  refine lv_ldc (v := (-16777216)) hexec hb X.1.2.2.2.1 (X.1.2.2.2.2 _ q572) dX4_init_18 ?_
  refine lv_ldc (v := 16777216) hexec hb X.1.2.2.2.1 (X.1.2.2.2.2 _ q573) dX4_init_20 ?_
  refine g_callSN X (met_X1_held l K G_3 v (-16777216) 16777216) gp_X1_held rfl X.2.1.2.2.2.1.2.2.2.2.2.1 q564 q38 q565 hG hS hl ⟨Nat.le_of_ble_eq_true rfl, Nat.le_of_ble_eq_true rfl⟩ ⟨(Nat.le_of_ble_eq_true rfl), (Nat.le_of_ble_eq_true rfl)⟩ (rest := [.ref (q)]) (Nat.le_of_ble_eq_true rfl) rfl dX4_init_22 (fun w G_4 H locs hp hG hS => ?_)
  obtain ⟨rfl, hge⟩ := hp
  rw [hge] at hG
  clear hge
  refine g_topE (z := (l_hold v (-16777216) 16777216).toInt32) (held_v v) ?_
  refine W.eq (g2 := F0 m 25 ls [.int ((l_hold v (-16777216) 16777216).toInt32), .ref (q)]) rfl ?_
  refine g_putF X hG hS hin hq0 (ci := 3) rfl in_X4 tyX4 tyX4_ok nmX4 1 (by decide) q576 (fun _ h => h) rfl rfl rfl rfl (fs1 := [.int ((l_hold x (-33554432) 33554432).toInt32), .int ((l_hold v (-16777216) 16777216).toInt32), .int (0), .int (0), .int (0)]) (Nat.le_of_ble_eq_true rfl) rfl dX4_init_25 (fun H locs hG hS => ?_)
  obtain ⟨G_6, hG, hx, hu, h_new⟩ : ∃ G1, gH K G1 H ∧ gF (fun t => t = τ) G_3 G1 ∧ (∀ b, b ≠ q → G1 b = G_3 b) ∧ G1 q = some (τ, .inr (3, [.int ((l_hold x (-33554432) 33554432).toInt32), .int ((l_hold v (-16777216) 16777216).toInt32), .int (0), .int (0), .int (0)])) := ⟨_, hG, gF.putO hq0 rfl, fun b hb => gU_ne hb, gU_self⟩
  have hF := hF.trans (hx.mono (fun t h => trivial))
  have hU := fun b hb => (hu b hb).trans (hU b hb)
  have hq0 := h_new
  clear h_new
  refine lv_aload_n hexec hb dX4_init_28 rfl (lv_at hl 0 rfl) ?_
  refine lv_lload hexec hb dX4_init_29 (lv_at hl 3 rfl) ?_
  refine lv_iconst (v := 1) hexec hb dX4_init_31 (by decide) ?_
  refine lv_ldc (v := 16777216) hexec hb X.1.2.2.2.1 (X.1.2.2.2.2 _ q573) dX4_init_32 ?_
  refine g_callSN X (met_X1_held l K G_6 a 1 16777216) gp_X1_held rfl X.2.1.2.2.2.1.2.2.2.2.2.1 q564 q38 q565 hG hS hl ⟨Nat.le_of_ble_eq_true rfl, Nat.le_of_ble_eq_true rfl⟩ ⟨(Nat.le_of_ble_eq_true rfl), (Nat.le_of_ble_eq_true rfl)⟩ (rest := [.ref (q)]) (Nat.le_of_ble_eq_true rfl) rfl dX4_init_34 (fun w G_7 H locs hp hG hS => ?_)
  obtain ⟨rfl, hge⟩ := hp
  rw [hge] at hG
  clear hge
  refine g_topE (z := (l_hold a 1 16777216).toInt32) (held_a a) ?_
  refine W.eq (g2 := F0 m 37 ls [.int ((l_hold a 1 16777216).toInt32), .ref (q)]) rfl ?_
  refine g_putF X hG hS hin hq0 (ci := 3) rfl in_X4 tyX4 tyX4_ok nmX4 2 (by decide) q578 (fun _ h => h) rfl rfl rfl rfl (fs1 := [.int ((l_hold x (-33554432) 33554432).toInt32), .int ((l_hold v (-16777216) 16777216).toInt32), .int ((l_hold a 1 16777216).toInt32), .int (0), .int (0)]) (Nat.le_of_ble_eq_true rfl) rfl dX4_init_37 (fun H locs hG hS => ?_)
  obtain ⟨G_9, hG, hx, hu, h_new⟩ : ∃ G1, gH K G1 H ∧ gF (fun t => t = τ) G_6 G1 ∧ (∀ b, b ≠ q → G1 b = G_6 b) ∧ G1 q = some (τ, .inr (3, [.int ((l_hold x (-33554432) 33554432).toInt32), .int ((l_hold v (-16777216) 16777216).toInt32), .int ((l_hold a 1 16777216).toInt32), .int (0), .int (0)])) := ⟨_, hG, gF.putO hq0 rfl, fun b hb => gU_ne hb, gU_self⟩
  have hF := hF.trans (hx.mono (fun t h => trivial))
  have hU := fun b hb => (hu b hb).trans (hU b hb)
  have hq0 := h_new
  clear h_new
  refine lv_aload_n hexec hb dX4_init_40 rfl (lv_at hl 0 rfl) ?_
  refine lv_lload hexec hb dX4_init_41 (lv_at hl 4 rfl) ?_
  refine lv_ldc (v := (-16777216)) hexec hb X.1.2.2.2.1 (X.1.2.2.2.2 _ q572) dX4_init_43 ?_
  refine lv_ldc (v := 16777216) hexec hb X.1.2.2.2.1 (X.1.2.2.2.2 _ q573) dX4_init_45 ?_
  refine g_callSN X (met_X1_held l K G_9 b (-16777216) 16777216) gp_X1_held rfl X.2.1.2.2.2.1.2.2.2.2.2.1 q564 q38 q565 hG hS hl ⟨Nat.le_of_ble_eq_true rfl, Nat.le_of_ble_eq_true rfl⟩ ⟨(Nat.le_of_ble_eq_true rfl), (Nat.le_of_ble_eq_true rfl)⟩ (rest := [.ref (q)]) (Nat.le_of_ble_eq_true rfl) rfl dX4_init_47 (fun w G_10 H locs hp hG hS => ?_)
  obtain ⟨rfl, hge⟩ := hp
  rw [hge] at hG
  clear hge
  refine g_topE (z := (l_hold b (-16777216) 16777216).toInt32) (held_v b) ?_
  refine W.eq (g2 := F0 m 50 ls [.int ((l_hold b (-16777216) 16777216).toInt32), .ref (q)]) rfl ?_
  refine g_putF X hG hS hin hq0 (ci := 3) rfl in_X4 tyX4 tyX4_ok nmX4 3 (by decide) q580 (fun _ h => h) rfl rfl rfl rfl (fs1 := [.int ((l_hold x (-33554432) 33554432).toInt32), .int ((l_hold v (-16777216) 16777216).toInt32), .int ((l_hold a 1 16777216).toInt32), .int ((l_hold b (-16777216) 16777216).toInt32), .int (0)]) (Nat.le_of_ble_eq_true rfl) rfl dX4_init_50 (fun H locs hG hS => ?_)
  obtain ⟨G_12, hG, hx, hu, h_new⟩ : ∃ G1, gH K G1 H ∧ gF (fun t => t = τ) G_9 G1 ∧ (∀ b, b ≠ q → G1 b = G_9 b) ∧ G1 q = some (τ, .inr (3, [.int ((l_hold x (-33554432) 33554432).toInt32), .int ((l_hold v (-16777216) 16777216).toInt32), .int ((l_hold a 1 16777216).toInt32), .int ((l_hold b (-16777216) 16777216).toInt32), .int (0)])) := ⟨_, hG, gF.putO hq0 rfl, fun b hb => gU_ne hb, gU_self⟩
  have hF := hF.trans (hx.mono (fun t h => trivial))
  have hU := fun b hb => (hu b hb).trans (hU b hb)
  have hq0 := h_new
  clear h_new
  refine lv_aload_n hexec hb dX4_init_53 rfl (lv_at hl 0 rfl) ?_
  refine lv_lload hexec hb dX4_init_54 (lv_at hl 5 rfl) ?_
  refine lv_iconst (v := 1) hexec hb dX4_init_56 (by decide) ?_
  refine lv_ldc (v := 16777216) hexec hb X.1.2.2.2.1 (X.1.2.2.2.2 _ q573) dX4_init_57 ?_
  refine g_callSN X (met_X1_held l K G_12 d 1 16777216) gp_X1_held rfl X.2.1.2.2.2.1.2.2.2.2.2.1 q564 q38 q565 hG hS hl ⟨Nat.le_of_ble_eq_true rfl, Nat.le_of_ble_eq_true rfl⟩ ⟨(Nat.le_of_ble_eq_true rfl), (Nat.le_of_ble_eq_true rfl)⟩ (rest := [.ref (q)]) (Nat.le_of_ble_eq_true rfl) rfl dX4_init_59 (fun w G_13 H locs hp hG hS => ?_)
  obtain ⟨rfl, hge⟩ := hp
  rw [hge] at hG
  clear hge
  refine g_topE (z := (l_hold d 1 16777216).toInt32) (held_a d) ?_
  refine W.eq (g2 := F0 m 62 ls [.int ((l_hold d 1 16777216).toInt32), .ref (q)]) rfl ?_
  refine g_putF X hG hS hin hq0 (ci := 3) rfl in_X4 tyX4 tyX4_ok nmX4 4 (by decide) q582 (fun _ h => h) rfl rfl rfl rfl (fs1 := [.int ((l_hold x (-33554432) 33554432).toInt32), .int ((l_hold v (-16777216) 16777216).toInt32), .int ((l_hold a 1 16777216).toInt32), .int ((l_hold b (-16777216) 16777216).toInt32), .int ((l_hold d 1 16777216).toInt32)]) (Nat.le_of_ble_eq_true rfl) rfl dX4_init_62 (fun H locs hG hS => ?_)
  obtain ⟨G_15, hG, hx, hu, h_new⟩ : ∃ G1, gH K G1 H ∧ gF (fun t => t = τ) G_12 G1 ∧ (∀ b, b ≠ q → G1 b = G_12 b) ∧ G1 q = some (τ, .inr (3, [.int ((l_hold x (-33554432) 33554432).toInt32), .int ((l_hold v (-16777216) 16777216).toInt32), .int ((l_hold a 1 16777216).toInt32), .int ((l_hold b (-16777216) 16777216).toInt32), .int ((l_hold d 1 16777216).toInt32)])) := ⟨_, hG, gF.putO hq0 rfl, fun b hb => gU_ne hb, gU_self⟩
  have hF := hF.trans (hx.mono (fun t h => trivial))
  have hU := fun b hb => (hu b hb).trans (hU b hb)
  have hq0 := h_new
  clear h_new
  exact g_vret X hr hG hS ⟨rfl, by unfold stO; rw [sh0, sh1, sh2, sh3, sh4]; exact hq0, hU⟩ (Nat.le_of_ble_eq_true rfl) (Nat.le_of_ble_eq_true rfl) dX4_init_65
set_option maxHeartbeats 2000000 in
set_option maxRecDepth 100000 in
theorem met_X4_spread (l : Launch) (K : gK) (G : gT) (a : Nat) (u : Nat → Int64) (z : Int32) (ha : G a = some (10000, stO u)) (hu5 : sok u)  : gMet l K yX4_spread cX4_spread 2 (some .long) 0 0 0 0 [.ref (a), .int (z)] G (fun w G1 => w = some (.long (u 2 + 256 * z.toInt64)) ∧ G1 = G) := by
  refine gMet.of (by decide) (Nat.le_of_ble_eq_true rfl) (fun p e s m below meth c ls hx0 hb X hr hin hG hS hl => ?_)
  have hexec := hx0
  have X : gC K p s m _ meth c cX4_spread 2 "KalmanQuay$State" := X
  have hl : lv_has ls 2 [(0, .ref (a)), (1, .int (z))] := hl
  have hF : gF (fun _ => True) G G := gF.rf
  refine lv_aload_n hexec hb dX4_spread_0 rfl (lv_at hl 0 rfl) ?_
  refine g_get X hG ha (ci := 3) rfl in_X4 2 (by decide) q578 (fun _ h => h) rfl dX4_spread_1 ?_
  refine lv_i2l hexec hb dX4_spread_4 rfl ?_
  refine g_topL (z := u 2) (hu5 2 (by decide)) ?_
  refine lv_ldc2 (v := 256) hexec hb X.1.2.2.2.1 (X.1.2.2.2.2 _ q609) dX4_spread_5 ?_
  refine lv_iload_n hexec hb dX4_spread_8 rfl (lv_at hl 1 rfl) ?_
  refine lv_i2l hexec hb dX4_spread_9 rfl ?_
  refine lv_lmul hexec hb dX4_spread_10 ?_
  refine lv_ladd hexec hb dX4_spread_11 ?_
  exact g_lret X hr hG hS ⟨rfl, rfl⟩ (Nat.le_of_ble_eq_true rfl) (Nat.le_of_ble_eq_true rfl) dX4_spread_12
set_option maxHeartbeats 2000000 in
set_option maxRecDepth 100000 in
theorem met_X4_miss (l : Launch) (K : gK) (G : gT) (a : Nat) (u : Nat → Int64) (z : Int32) (ha : G a = some (10000, stO u)) (hu5 : sok u)  : gMet l K yX4_miss cX4_miss 2 (some .long) 0 0 0 0 [.ref (a), .int (z)] G (fun w G1 => w = some (.long (z.toInt64 * 256 - u 0)) ∧ G1 = G) := by
  refine gMet.of (by decide) (Nat.le_of_ble_eq_true rfl) (fun p e s m below meth c ls hx0 hb X hr hin hG hS hl => ?_)
  have hexec := hx0
  have X : gC K p s m _ meth c cX4_miss 2 "KalmanQuay$State" := X
  have hl : lv_has ls 2 [(0, .ref (a)), (1, .int (z))] := hl
  have hF : gF (fun _ => True) G G := gF.rf
  refine lv_iload_n hexec hb dX4_miss_0 rfl (lv_at hl 1 rfl) ?_
  refine lv_i2l hexec hb dX4_miss_1 rfl ?_
  refine lv_ldc2 (v := 256) hexec hb X.1.2.2.2.1 (X.1.2.2.2.2 _ q609) dX4_miss_2 ?_
  refine lv_lmul hexec hb dX4_miss_5 ?_
  refine lv_aload_n hexec hb dX4_miss_6 rfl (lv_at hl 0 rfl) ?_
  refine g_get X hG ha (ci := 3) rfl in_X4 0 (by decide) q574 (fun _ h => h) rfl dX4_miss_7 ?_
  refine lv_i2l hexec hb dX4_miss_10 rfl ?_
  refine g_topL (z := u 0) (hu5 0 (by decide)) ?_
  refine lv_lsub hexec hb dX4_miss_11 ?_
  exact g_lret X hr hG hS ⟨rfl, rfl⟩ (Nat.le_of_ble_eq_true rfl) (Nat.le_of_ble_eq_true rfl) dX4_miss_12
