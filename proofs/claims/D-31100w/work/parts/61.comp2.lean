/-! the component: State steps (printed by gen/comp2.py) -/
set_option maxRecDepth 100000
theorem gp_X4_init : gPar yX4_init 5 := ⟨⟨by decide, by decide⟩, by decide +kernel⟩
theorem gp_X4_miss : gPar yX4_miss 1 := ⟨⟨by decide, by decide⟩, by decide +kernel⟩
theorem gp_X4_spread : gPar yX4_spread 1 := ⟨⟨by decide, by decide⟩, by decide +kernel⟩
def s_miss (u : Nat → Int64) (pl : Int32) : Int64 := pl.toInt64 * 256 - u 0
def s_spr (u : Nat → Int64) (va : Int32) : Int64 := u 2 + 256 * va.toInt64
def s_gate (u : Nat → Int64) (pl va ga : Int32) : Bool := decide (16 * s_miss u pl * s_miss u pl ≤ ga.toInt64 * ga.toInt64 * s_spr u va * 256)
def s_fore (u : Nat → Int64) (z : Int32) : Nat → Int64 := s_held (u 0 + u 1) (u 1) (u 2 + 2 * u 3 + u 4 + (z / 4).toInt64) (u 3 + u 4 + (z / 2).toInt64) (u 4 + z.toInt64)
def s_corr (u : Nat → Int64) (pl va : Int32) : Nat → Int64 :=
  let s := s_spr u va
  let k := u 2 * 65536 / s
  let n := l_fdiv (u 3 * 65536) s
  let y := s_miss u pl
  s_held (u 0 + l_fdiv (k * y) 65536) (u 1 + l_fdiv (n * y) 65536) (u 2 - l_fdiv (k * u 2) 65536) (u 3 - l_fdiv (k * u 3) 65536) (u 4 - l_fdiv (n * u 3) 65536)
set_option maxHeartbeats 2000000 in
set_option maxRecDepth 100000 in
theorem met_X4_isInGate (l : Launch) (K : gK) (G : gT) (pl va ga : Int32) (a : Nat) (u : Nat → Int64) (ha : G a = some (10000, stO u)) (hu5 : sok u)  : gMet l K yX4_isInGate cX4_isInGate 6 (some .boolean) 1 37 0 0 [.ref (a), .int (pl), .int (va), .int (ga)] G (fun w G1 => w = some (.int (gb (s_gate u pl va ga))) ∧ G1 = G) := by
  refine gMet.of (by decide) (Nat.le_of_ble_eq_true rfl) (fun p e s m below meth c ls hx0 hb X hr hin hG hS hl => ?_)
  have hexec := hx0
  have X : gC K p s m _ meth c cX4_isInGate 6 "KalmanQuay$State" := X
  have hl : lv_has ls 6 [(0, .ref (a)), (1, .int (pl)), (2, .int (va)), (3, .int (ga))] := hl
  have hF : gF (fun _ => True) G G := gF.rf
  refine lv_aload_n hexec hb dX4_isInGate_0 rfl (lv_at hl 0 rfl) ?_
  refine lv_iload_n hexec hb dX4_isInGate_1 rfl (lv_at hl 1 rfl) ?_
  refine g_callV X (met_X4_miss l K G a u pl ha hu5) gp_X4_miss rfl q605 q606 (C := "KalmanQuay$State") q607 q65 q608 hG hS (gRecv X hG ha (ci := 3) rfl rfl) hl ⟨Nat.le_of_ble_eq_true rfl, Nat.le_of_ble_eq_true rfl⟩ ⟨(Nat.le_of_ble_eq_true rfl), (Nat.le_of_ble_eq_true rfl)⟩ (rest := []) (Nat.le_of_ble_eq_true rfl) rfl dX4_isInGate_2 (fun w G_1 H locs hp hG hS => ?_)
  obtain ⟨rfl, hge⟩ := hp
  rw [hge] at hG
  clear hge
  refine W.eq (g2 := F0 m 5 ls [.long (s_miss u pl)]) rfl ?_
  refine lv_lstore (lv' := [(4, .long (s_miss u pl)), (0, .ref (a)), (1, .int (pl)), (2, .int (va)), (3, .int (ga))]) hexec hb dX4_isInGate_5 hl (by decide) rfl (fun ls hl => ?_)
  refine lv_ldc2 (v := 16) hexec hb X.1.2.2.2.1 (X.1.2.2.2.2 _ q610) dX4_isInGate_7 ?_
  refine lv_lload hexec hb dX4_isInGate_10 (lv_at hl 0 rfl) ?_
  refine lv_lmul hexec hb dX4_isInGate_12 ?_
  refine lv_lload hexec hb dX4_isInGate_13 (lv_at hl 0 rfl) ?_
  refine lv_lmul hexec hb dX4_isInGate_15 ?_
  refine lv_iload_n hexec hb dX4_isInGate_16 rfl (lv_at hl 4 rfl) ?_
  refine lv_i2l hexec hb dX4_isInGate_17 rfl ?_
  refine lv_iload_n hexec hb dX4_isInGate_18 rfl (lv_at hl 4 rfl) ?_
  refine lv_i2l hexec hb dX4_isInGate_19 rfl ?_
  refine lv_lmul hexec hb dX4_isInGate_20 ?_
  refine lv_aload_n hexec hb dX4_isInGate_21 rfl (lv_at hl 1 rfl) ?_
  refine lv_iload_n hexec hb dX4_isInGate_22 rfl (lv_at hl 3 rfl) ?_
  refine g_callV X (met_X4_spread l K G a u va ha hu5) gp_X4_spread rfl q611 q612 (C := "KalmanQuay$State") q613 q65 q614 hG hS (gRecv X hG ha (ci := 3) rfl rfl) hl ⟨Nat.le_of_ble_eq_true rfl, Nat.le_of_ble_eq_true rfl⟩ ⟨(Nat.le_of_ble_eq_true rfl), (Nat.le_of_ble_eq_true rfl)⟩ (rest := [.long (ga.toInt64 * ga.toInt64), .long ((16 * (s_miss u pl)) * (s_miss u pl))]) (Nat.le_of_ble_eq_true rfl) rfl dX4_isInGate_23 (fun w G_2 H locs hp hG hS => ?_)
  obtain ⟨rfl, hge⟩ := hp
  rw [hge] at hG
  clear hge
  refine W.eq (g2 := F0 m 26 ls [.long (s_spr u va), .long (ga.toInt64 * ga.toInt64), .long ((16 * (s_miss u pl)) * (s_miss u pl))]) rfl ?_
  refine lv_lmul hexec hb dX4_isInGate_26 ?_
  refine lv_ldc2 (v := 256) hexec hb X.1.2.2.2.1 (X.1.2.2.2.2 _ q609) dX4_isInGate_27 ?_
  refine lv_lmul hexec hb dX4_isInGate_30 ?_
  refine g_lif_gt hexec hb 39 dX4_isInGate_31 dX4_isInGate_32 (by decide) (fun c_31 => ?_) (fun c_31 => ?_)
  · skip
    refine lv_iconst (v := 0) hexec hb dX4_isInGate_39 (by decide) ?_
    exact g_zret X hr hG hS rfl ⟨by rw [s_gate, decide_eq_false (Int64.not_le.mpr c_31)]; rfl, rfl⟩ (Nat.le_of_ble_eq_true rfl) (Nat.le_of_ble_eq_true rfl) dX4_isInGate_40
  · skip
    refine lv_iconst (v := 1) hexec hb dX4_isInGate_35 (by decide) ?_
    refine lv_goto (tgt := 40) hexec hb dX4_isInGate_36 (by decide) ?_
    exact g_zret X hr hG hS rfl ⟨by rw [s_gate, decide_eq_true (Int64.not_lt.mp c_31)]; rfl, rfl⟩ (Nat.le_of_ble_eq_true rfl) (Nat.le_of_ble_eq_true rfl) dX4_isInGate_40
set_option maxHeartbeats 2000000 in
set_option maxRecDepth 100000 in
theorem met_X4_cost (l : Launch) (K : gK) (G : gT) (pl va : Int32) (a : Nat) (u : Nat → Int64) (ha : G a = some (10000, stO u)) (hu5 : sok u) (hz : ¬ s_spr u va = 0)  : gMet l K yX4_cost cX4_cost 5 (some .long) 1 37 0 0 [.ref (a), .int (pl), .int (va)] G (fun w G1 => w = some (.long (s_miss u pl * s_miss u pl / s_spr u va)) ∧ G1 = G) := by
  refine gMet.of (by decide) (Nat.le_of_ble_eq_true rfl) (fun p e s m below meth c ls hx0 hb X hr hin hG hS hl => ?_)
  have hexec := hx0
  have X : gC K p s m _ meth c cX4_cost 5 "KalmanQuay$State" := X
  have hl : lv_has ls 5 [(0, .ref (a)), (1, .int (pl)), (2, .int (va))] := hl
  have hF : gF (fun _ => True) G G := gF.rf
  refine lv_aload_n hexec hb dX4_cost_0 rfl (lv_at hl 0 rfl) ?_
  refine lv_iload_n hexec hb dX4_cost_1 rfl (lv_at hl 1 rfl) ?_
  refine g_callV X (met_X4_miss l K G a u pl ha hu5) gp_X4_miss rfl q605 q606 (C := "KalmanQuay$State") q607 q65 q608 hG hS (gRecv X hG ha (ci := 3) rfl rfl) hl ⟨Nat.le_of_ble_eq_true rfl, Nat.le_of_ble_eq_true rfl⟩ ⟨(Nat.le_of_ble_eq_true rfl), (Nat.le_of_ble_eq_true rfl)⟩ (rest := []) (Nat.le_of_ble_eq_true rfl) rfl dX4_cost_2 (fun w G_1 H locs hp hG hS => ?_)
  obtain ⟨rfl, hge⟩ := hp
  rw [hge] at hG
  clear hge
  refine W.eq (g2 := F0 m 5 ls [.long (s_miss u pl)]) rfl ?_
  refine lv_lstore_n (lv' := [(3, .long (s_miss u pl)), (0, .ref (a)), (1, .int (pl)), (2, .int (va))]) hexec hb dX4_cost_5 rfl hl (by decide) rfl (fun ls hl => ?_)
  refine lv_lload_n hexec hb dX4_cost_6 rfl (lv_at hl 0 rfl) ?_
  refine lv_lload_n hexec hb dX4_cost_7 rfl (lv_at hl 0 rfl) ?_
  refine lv_lmul hexec hb dX4_cost_8 ?_
  refine lv_aload_n hexec hb dX4_cost_9 rfl (lv_at hl 1 rfl) ?_
  refine lv_iload_n hexec hb dX4_cost_10 rfl (lv_at hl 3 rfl) ?_
  refine g_callV X (met_X4_spread l K G a u va ha hu5) gp_X4_spread rfl q611 q612 (C := "KalmanQuay$State") q613 q65 q614 hG hS (gRecv X hG ha (ci := 3) rfl rfl) hl ⟨Nat.le_of_ble_eq_true rfl, Nat.le_of_ble_eq_true rfl⟩ ⟨(Nat.le_of_ble_eq_true rfl), (Nat.le_of_ble_eq_true rfl)⟩ (rest := [.long ((s_miss u pl) * (s_miss u pl))]) (Nat.le_of_ble_eq_true rfl) rfl dX4_cost_11 (fun w G_2 H locs hp hG hS => ?_)
  obtain ⟨rfl, hge⟩ := hp
  rw [hge] at hG
  clear hge
  refine W.eq (g2 := F0 m 14 ls [.long (s_spr u va), .long ((s_miss u pl) * (s_miss u pl))]) rfl ?_
  refine lv_ldiv hexec hb dX4_cost_14 hz ?_
  exact g_lret X hr hG hS ⟨rfl, rfl⟩ (Nat.le_of_ble_eq_true rfl) (Nat.le_of_ble_eq_true rfl) dX4_cost_15
set_option maxHeartbeats 2000000 in
set_option maxRecDepth 100000 in
theorem met_X4_foretell (l : Launch) (K : gK) (G : gT) (z : Int32) (a : Nat) (u : Nat → Int64) (ha : G a = some (10000, stO u)) (hu5 : sok u)  : gMet l K yX4_foretell cX4_foretell 4 (some (.object "KalmanQuay$State")) 3 125 1 5 [.ref (a), .int (z)] G (fun w G1 => ∃ q, w = some (.ref q) ∧ gExt G G1 ∧ G1 q = some (10000, stO (s_fore u z))) := by
  refine gMet.of (by decide) (Nat.le_of_ble_eq_true rfl) (fun p e s m below meth c ls hx0 hb X hr hin hG hS hl => ?_)
  have hexec := hx0
  have X : gC K p s m _ meth c cX4_foretell 4 "KalmanQuay$State" := X
  have hl : lv_has ls 4 [(0, .ref (a)), (1, .int (z))] := hl
  have hE : gExt G G := gExt.rf
  have ha0 := ha
  have hF : gF (fun _ => True) G G := gF.rf
  refine lv_aload_n hexec hb dX4_foretell_0 rfl (lv_at hl 0 rfl) ?_
  refine g_get X hG ha (ci := 3) rfl in_X4 3 (by decide) q580 (fun _ h => h) rfl dX4_foretell_1 ?_
  refine lv_i2l hexec hb dX4_foretell_4 rfl ?_
  refine g_topL (z := u 3) (hu5 3 (by decide)) ?_
  refine lv_aload_n hexec hb dX4_foretell_5 rfl (lv_at hl 0 rfl) ?_
  refine g_get X hG ha (ci := 3) rfl in_X4 4 (by decide) q582 (fun _ h => h) rfl dX4_foretell_6 ?_
  refine lv_i2l hexec hb dX4_foretell_9 rfl ?_
  refine g_topL (z := u 4) (hu5 4 (by decide)) ?_
  refine lv_ladd hexec hb dX4_foretell_10 ?_
  refine lv_iload_n hexec hb dX4_foretell_11 rfl (lv_at hl 1 rfl) ?_
  refine lv_iconst (v := 2) hexec hb dX4_foretell_12 (by decide) ?_
  refine lv_idiv hexec hb dX4_foretell_13 (by decide) ?_
  refine lv_i2l hexec hb dX4_foretell_14 rfl ?_
  refine lv_ladd hexec hb dX4_foretell_15 ?_
  refine lv_lstore_n (lv' := [(2, .long (((u 3) + (u 4)) + ((z / 2).toInt64))), (0, .ref (a)), (1, .int (z))]) hexec hb dX4_foretell_16 rfl hl (by decide) rfl (fun ls hl => ?_)
  refine g_new X hG hS (ci := 3) rfl in_X4 tyX4 tyX4_ok q554 q555 q65 (fs := [.int (0), .int (0), .int (0), .int (0), .int (0)]) (by intro j hj; match j, hj with | 0, _ => rfl | 1, _ => rfl | 2, _ => rfl | 3, _ => rfl | 4, _ => rfl) (Nat.le_of_ble_eq_true rfl) (Nat.le_of_ble_eq_true rfl) dX4_foretell_17 (10000) (fun n1 H hq hn1A hG hS => ?_)
  have ne_ha_n1 := g_ne_n ha hq
  obtain ⟨G_1, hG, hx, hn1, hn1O⟩ : ∃ G1, gH K G1 H ∧ gExt G G1 ∧ G1 n1 = some (10000, .inr (3, [.int (0), .int (0), .int (0), .int (0), .int (0)])) ∧ G1 = gU G n1 (10000) (.inr (3, [.int (0), .int (0), .int (0), .int (0), .int (0)])) := ⟨_, hG, gExt.new hq, gU_self, rfl⟩
  have hF := hF.trans hx.gF
  have hE := hE.trans hx
  have ha := hx _ _ _ ha
  refine lv_dup hexec hb dX4_foretell_20 rfl ?_
  refine lv_aload_n hexec hb dX4_foretell_21 rfl (lv_at hl 1 rfl) ?_
  refine g_get X hG ha (ci := 3) rfl in_X4 0 (by decide) q574 (fun _ h => h) rfl dX4_foretell_22 ?_
  refine lv_i2l hexec hb dX4_foretell_25 rfl ?_
  refine g_topL (z := u 0) (hu5 0 (by decide)) ?_
  refine lv_aload_n hexec hb dX4_foretell_26 rfl (lv_at hl 1 rfl) ?_
  refine g_get X hG ha (ci := 3) rfl in_X4 1 (by decide) q576 (fun _ h => h) rfl dX4_foretell_27 ?_
  refine lv_i2l hexec hb dX4_foretell_30 rfl ?_
  refine g_topL (z := u 1) (hu5 1 (by decide)) ?_
  refine lv_ladd hexec hb dX4_foretell_31 ?_
  refine lv_aload_n hexec hb dX4_foretell_32 rfl (lv_at hl 1 rfl) ?_
  refine g_get X hG ha (ci := 3) rfl in_X4 1 (by decide) q576 (fun _ h => h) rfl dX4_foretell_33 ?_
  refine lv_i2l hexec hb dX4_foretell_36 rfl ?_
  refine g_topL (z := u 1) (hu5 1 (by decide)) ?_
  refine lv_aload_n hexec hb dX4_foretell_37 rfl (lv_at hl 1 rfl) ?_
  refine g_get X hG ha (ci := 3) rfl in_X4 2 (by decide) q578 (fun _ h => h) rfl dX4_foretell_38 ?_
  refine lv_i2l hexec hb dX4_foretell_41 rfl ?_
  refine g_topL (z := u 2) (hu5 2 (by decide)) ?_
  refine lv_ldc2 (v := 2) hexec hb X.1.2.2.2.1 (X.1.2.2.2.2 _ q556) dX4_foretell_42 ?_
  refine lv_aload_n hexec hb dX4_foretell_45 rfl (lv_at hl 1 rfl) ?_
  refine g_get X hG ha (ci := 3) rfl in_X4 3 (by decide) q580 (fun _ h => h) rfl dX4_foretell_46 ?_
  refine lv_i2l hexec hb dX4_foretell_49 rfl ?_
  refine g_topL (z := u 3) (hu5 3 (by decide)) ?_
  refine lv_lmul hexec hb dX4_foretell_50 ?_
  refine lv_ladd hexec hb dX4_foretell_51 ?_
  refine lv_aload_n hexec hb dX4_foretell_52 rfl (lv_at hl 1 rfl) ?_
  refine g_get X hG ha (ci := 3) rfl in_X4 4 (by decide) q582 (fun _ h => h) rfl dX4_foretell_53 ?_
  refine lv_i2l hexec hb dX4_foretell_56 rfl ?_
  refine g_topL (z := u 4) (hu5 4 (by decide)) ?_
  refine lv_ladd hexec hb dX4_foretell_57 ?_
  refine lv_iload_n hexec hb dX4_foretell_58 rfl (lv_at hl 2 rfl) ?_
  refine lv_iconst (v := 4) hexec hb dX4_foretell_59 (by decide) ?_
  refine lv_idiv hexec hb dX4_foretell_60 (by decide) ?_
  refine lv_i2l hexec hb dX4_foretell_61 rfl ?_
  refine lv_ladd hexec hb dX4_foretell_62 ?_
  refine lv_lload_n hexec hb dX4_foretell_63 rfl (lv_at hl 0 rfl) ?_
  refine lv_aload_n hexec hb dX4_foretell_64 rfl (lv_at hl 1 rfl) ?_
  refine g_get X hG ha (ci := 3) rfl in_X4 4 (by decide) q582 (fun _ h => h) rfl dX4_foretell_65 ?_
  refine lv_i2l hexec hb dX4_foretell_68 rfl ?_
  refine g_topL (z := u 4) (hu5 4 (by decide)) ?_
  refine lv_iload_n hexec hb dX4_foretell_69 rfl (lv_at hl 2 rfl) ?_
  refine lv_i2l hexec hb dX4_foretell_70 rfl ?_
  refine lv_ladd hexec hb dX4_foretell_71 ?_
  refine g_callI X (met_X4_init l K G_1 10000 n1 ((u 0) + (u 1)) (u 1) ((((u 2) + (2 * (u 3))) + (u 4)) + ((z / 4).toInt64)) (((u 3) + (u 4)) + ((z / 2).toInt64)) ((u 4) + z.toInt64) hn1) gp_X4_init rfl rfl q557 q558 q65 q559 hG hS hl ⟨Nat.le_of_ble_eq_true rfl, Nat.le_of_ble_eq_true rfl⟩ ⟨(Nat.le_of_ble_eq_true rfl), (Nat.le_of_ble_eq_true rfl)⟩ (rest := [.ref (n1)]) (Nat.le_of_ble_eq_true rfl) rfl dX4_foretell_72 (fun w G_2 H locs hp hG hS => ?_)
  obtain ⟨rfl, h_new, hu⟩ := hp
  have hE := hE.put hq hu
  have ha := (hu _ (g_ne_n ha0 hq)).trans ha
  have hn1 := h_new
  refine W.eq (g2 := F0 m 75 ls [.ref (n1)]) rfl ?_
  exact g_aret X hr (Or.inl ⟨_, rfl⟩) hG hS (Or.inr ⟨_, rfl⟩) ⟨n1, rfl, hE, hn1⟩ (Nat.le_of_ble_eq_true rfl) (Nat.le_of_ble_eq_true rfl) dX4_foretell_75
set_option maxHeartbeats 2000000 in
set_option maxRecDepth 100000 in
theorem met_X4_correct (l : Launch) (K : gK) (G : gT) (pl va : Int32) (a : Nat) (u : Nat → Int64) (ha : G a = some (10000, stO u)) (hu5 : sok u) (hz : ¬ s_spr u va = 0)  : gMet l K yX4_correct cX4_correct 15 (some (.object "KalmanQuay$State")) 3 125 1 5 [.ref (a), .int (pl), .int (va)] G (fun w G1 => ∃ q, w = some (.ref q) ∧ gExt G G1 ∧ G1 q = some (10000, stO (s_corr u pl va))) := by
  refine gMet.of (by decide) (Nat.le_of_ble_eq_true rfl) (fun p e s m below meth c ls hx0 hb X hr hin hG hS hl => ?_)
  have hexec := hx0
  have X : gC K p s m _ meth c cX4_correct 15 "KalmanQuay$State" := X
  have hl : lv_has ls 15 [(0, .ref (a)), (1, .int (pl)), (2, .int (va))] := hl
  have hE : gExt G G := gExt.rf
  have ha0 := ha
  have hF : gF (fun _ => True) G G := gF.rf
  refine lv_aload_n hexec hb dX4_correct_0 rfl (lv_at hl 0 rfl) ?_
  refine lv_iload_n hexec hb dX4_correct_1 rfl (lv_at hl 2 rfl) ?_
  refine g_callV X (met_X4_spread l K G a u va ha hu5) gp_X4_spread rfl q611 q612 (C := "KalmanQuay$State") q613 q65 q614 hG hS (gRecv X hG ha (ci := 3) rfl rfl) hl ⟨Nat.le_of_ble_eq_true rfl, Nat.le_of_ble_eq_true rfl⟩ ⟨(Nat.le_of_ble_eq_true rfl), (Nat.le_of_ble_eq_true rfl)⟩ (rest := []) (Nat.le_of_ble_eq_true rfl) rfl dX4_correct_2 (fun w G_1 H locs hp hG hS => ?_)
  obtain ⟨rfl, hge⟩ := hp
  rw [hge] at hG
  clear hge
  refine W.eq (g2 := F0 m 5 ls [.long (s_spr u va)]) rfl ?_
  refine lv_lstore_n (lv' := [(3, .long (s_spr u va)), (0, .ref (a)), (1, .int (pl)), (2, .int (va))]) hexec hb dX4_correct_5 rfl hl (by decide) rfl (fun ls hl => ?_)
  refine lv_aload_n hexec hb dX4_correct_6 rfl (lv_at hl 1 rfl) ?_
  refine g_get X hG ha (ci := 3) rfl in_X4 2 (by decide) q578 (fun _ h => h) rfl dX4_correct_7 ?_
  refine lv_i2l hexec hb dX4_correct_10 rfl ?_
  refine g_topL (z := u 2) (hu5 2 (by decide)) ?_
  refine lv_ldc2 (v := 65536) hexec hb X.1.2.2.2.1 (X.1.2.2.2.2 _ q975) dX4_correct_11 ?_
  refine lv_lmul hexec hb dX4_correct_14 ?_
  refine lv_lload_n hexec hb dX4_correct_15 rfl (lv_at hl 0 rfl) ?_
  refine lv_ldiv hexec hb dX4_correct_16 hz ?_
  refine lv_lstore (lv' := [(5, .long (((u 2) * 65536) / (s_spr u va))), (3, .long (s_spr u va)), (0, .ref (a)), (1, .int (pl)), (2, .int (va))]) hexec hb dX4_correct_17 hl (by decide) rfl (fun ls hl => ?_)
  refine lv_aload_n hexec hb dX4_correct_19 rfl (lv_at hl 2 rfl) ?_
  refine g_get X hG ha (ci := 3) rfl in_X4 3 (by decide) q580 (fun _ h => h) rfl dX4_correct_20 ?_
  refine lv_i2l hexec hb dX4_correct_23 rfl ?_
  refine g_topL (z := u 3) (hu5 3 (by decide)) ?_
  refine lv_ldc2 (v := 65536) hexec hb X.1.2.2.2.1 (X.1.2.2.2.2 _ q975) dX4_correct_24 ?_
  refine lv_lmul hexec hb dX4_correct_27 ?_
  refine lv_lload_n hexec hb dX4_correct_28 rfl (lv_at hl 1 rfl) ?_
  refine g_callS X (met_J11_floorDiv l K ((u 3) * 65536) (s_spr u va) hz G) gp_J11_floorDiv rfl q976 q977 q52 q978 hG hS hl ⟨Nat.le_of_ble_eq_true rfl, Nat.le_of_ble_eq_true rfl⟩ ⟨(Nat.le_of_ble_eq_true rfl), (Nat.le_of_ble_eq_true rfl)⟩ (rest := []) (Nat.le_of_ble_eq_true rfl) rfl dX4_correct_29 (fun w G_2 H locs hp hG hS => ?_)
  obtain ⟨rfl, hge⟩ := hp
  rw [hge] at hG
  clear hge
  refine W.eq (g2 := F0 m 32 ls [.long (l_fdiv ((u 3) * 65536) (s_spr u va))]) rfl ?_
  refine lv_lstore (lv' := [(7, .long (l_fdiv ((u 3) * 65536) (s_spr u va))), (5, .long (((u 2) * 65536) / (s_spr u va))), (3, .long (s_spr u va)), (0, .ref (a)), (1, .int (pl)), (2, .int (va))]) hexec hb dX4_correct_32 hl (by decide) rfl (fun ls hl => ?_)
  refine lv_aload_n hexec hb dX4_correct_34 rfl (lv_at hl 3 rfl) ?_
  refine lv_iload_n hexec hb dX4_correct_35 rfl (lv_at hl 4 rfl) ?_
  refine g_callV X (met_X4_miss l K G a u pl ha hu5) gp_X4_miss rfl q605 q606 (C := "KalmanQuay$State") q607 q65 q608 hG hS (gRecv X hG ha (ci := 3) rfl rfl) hl ⟨Nat.le_of_ble_eq_true rfl, Nat.le_of_ble_eq_true rfl⟩ ⟨(Nat.le_of_ble_eq_true rfl), (Nat.le_of_ble_eq_true rfl)⟩ (rest := []) (Nat.le_of_ble_eq_true rfl) rfl dX4_correct_36 (fun w G_3 H locs hp hG hS => ?_)
  obtain ⟨rfl, hge⟩ := hp
  rw [hge] at hG
  clear hge
  refine W.eq (g2 := F0 m 39 ls [.long (s_miss u pl)]) rfl ?_
  refine lv_lstore (lv' := [(9, .long (s_miss u pl)), (7, .long (l_fdiv ((u 3) * 65536) (s_spr u va))), (5, .long (((u 2) * 65536) / (s_spr u va))), (3, .long (s_spr u va)), (0, .ref (a)), (1, .int (pl)), (2, .int (va))]) hexec hb dX4_correct_39 hl (by decide) rfl (fun ls hl => ?_)
  refine lv_aload_n hexec hb dX4_correct_41 rfl (lv_at hl 4 rfl) ?_
  refine g_get X hG ha (ci := 3) rfl in_X4 0 (by decide) q574 (fun _ h => h) rfl dX4_correct_42 ?_
  refine lv_i2l hexec hb dX4_correct_45 rfl ?_
  refine g_topL (z := u 0) (hu5 0 (by decide)) ?_
  refine lv_lload hexec hb dX4_correct_46 (lv_at hl 2 rfl) ?_
  refine lv_lload hexec hb dX4_correct_48 (lv_at hl 0 rfl) ?_
  refine lv_lmul hexec hb dX4_correct_50 ?_
  refine lv_ldc2 (v := 65536) hexec hb X.1.2.2.2.1 (X.1.2.2.2.2 _ q975) dX4_correct_51 ?_
  refine g_callS X (met_J11_floorDiv l K ((((u 2) * 65536) / (s_spr u va)) * (s_miss u pl)) 65536 (by decide) G) gp_J11_floorDiv rfl q976 q977 q52 q978 hG hS hl ⟨Nat.le_of_ble_eq_true rfl, Nat.le_of_ble_eq_true rfl⟩ ⟨(Nat.le_of_ble_eq_true rfl), (Nat.le_of_ble_eq_true rfl)⟩ (rest := [.long (u 0)]) (Nat.le_of_ble_eq_true rfl) rfl dX4_correct_54 (fun w G_4 H locs hp hG hS => ?_)
  obtain ⟨rfl, hge⟩ := hp
  rw [hge] at hG
  clear hge
  refine W.eq (g2 := F0 m 57 ls [.long (l_fdiv ((((u 2) * 65536) / (s_spr u va)) * (s_miss u pl)) 65536), .long (u 0)]) rfl ?_
  refine lv_ladd hexec hb dX4_correct_57 ?_
  refine lv_lstore (lv' := [(11, .long ((u 0) + (l_fdiv ((((u 2) * 65536) / (s_spr u va)) * (s_miss u pl)) 65536))), (9, .long (s_miss u pl)), (7, .long (l_fdiv ((u 3) * 65536) (s_spr u va))), (5, .long (((u 2) * 65536) / (s_spr u va))), (3, .long (s_spr u va)), (0, .ref (a)), (1, .int (pl)), (2, .int (va))]) hexec hb dX4_correct_58 hl (by decide) rfl (fun ls hl => ?_)
  refine lv_aload_n hexec hb dX4_correct_60 rfl (lv_at hl 5 rfl) ?_
  refine g_get X hG ha (ci := 3) rfl in_X4 1 (by decide) q576 (fun _ h => h) rfl dX4_correct_61 ?_
  refine lv_i2l hexec hb dX4_correct_64 rfl ?_
  refine g_topL (z := u 1) (hu5 1 (by decide)) ?_
  refine lv_lload hexec hb dX4_correct_65 (lv_at hl 2 rfl) ?_
  refine lv_lload hexec hb dX4_correct_67 (lv_at hl 1 rfl) ?_
  refine lv_lmul hexec hb dX4_correct_69 ?_
  refine lv_ldc2 (v := 65536) hexec hb X.1.2.2.2.1 (X.1.2.2.2.2 _ q975) dX4_correct_70 ?_
  refine g_callS X (met_J11_floorDiv l K ((l_fdiv ((u 3) * 65536) (s_spr u va)) * (s_miss u pl)) 65536 (by decide) G) gp_J11_floorDiv rfl q976 q977 q52 q978 hG hS hl ⟨Nat.le_of_ble_eq_true rfl, Nat.le_of_ble_eq_true rfl⟩ ⟨(Nat.le_of_ble_eq_true rfl), (Nat.le_of_ble_eq_true rfl)⟩ (rest := [.long (u 1)]) (Nat.le_of_ble_eq_true rfl) rfl dX4_correct_73 (fun w G_5 H locs hp hG hS => ?_)
  obtain ⟨rfl, hge⟩ := hp
  rw [hge] at hG
  clear hge
  refine W.eq (g2 := F0 m 76 ls [.long (l_fdiv ((l_fdiv ((u 3) * 65536) (s_spr u va)) * (s_miss u pl)) 65536), .long (u 1)]) rfl ?_
  refine lv_ladd hexec hb dX4_correct_76 ?_
  refine lv_lstore (lv' := [(13, .long ((u 1) + (l_fdiv ((l_fdiv ((u 3) * 65536) (s_spr u va)) * (s_miss u pl)) 65536))), (11, .long ((u 0) + (l_fdiv ((((u 2) * 65536) / (s_spr u va)) * (s_miss u pl)) 65536))), (9, .long (s_miss u pl)), (7, .long (l_fdiv ((u 3) * 65536) (s_spr u va))), (5, .long (((u 2) * 65536) / (s_spr u va))), (3, .long (s_spr u va)), (0, .ref (a)), (1, .int (pl)), (2, .int (va))]) hexec hb dX4_correct_77 hl (by decide) rfl (fun ls hl => ?_)
  refine g_new X hG hS (ci := 3) rfl in_X4 tyX4 tyX4_ok q554 q555 q65 (fs := [.int (0), .int (0), .int (0), .int (0), .int (0)]) (by intro j hj; match j, hj with | 0, _ => rfl | 1, _ => rfl | 2, _ => rfl | 3, _ => rfl | 4, _ => rfl) (Nat.le_of_ble_eq_true rfl) (Nat.le_of_ble_eq_true rfl) dX4_correct_79 (10000) (fun n1 H hq hn1A hG hS => ?_)
  have ne_ha_n1 := g_ne_n ha hq
  obtain ⟨G_6, hG, hx, hn1, hn1O⟩ : ∃ G1, gH K G1 H ∧ gExt G G1 ∧ G1 n1 = some (10000, .inr (3, [.int (0), .int (0), .int (0), .int (0), .int (0)])) ∧ G1 = gU G n1 (10000) (.inr (3, [.int (0), .int (0), .int (0), .int (0), .int (0)])) := ⟨_, hG, gExt.new hq, gU_self, rfl⟩
  have hF := hF.trans hx.gF
  have hE := hE.trans hx
  have ha := hx _ _ _ ha
  refine lv_dup hexec hb dX4_correct_82 rfl ?_
  refine lv_lload hexec hb dX4_correct_83 (lv_at hl 1 rfl) ?_
  refine lv_lload hexec hb dX4_correct_85 (lv_at hl 0 rfl) ?_
  refine lv_aload_n hexec hb dX4_correct_87 rfl (lv_at hl 6 rfl) ?_
  refine g_get X hG ha (ci := 3) rfl in_X4 2 (by decide) q578 (fun _ h => h) rfl dX4_correct_88 ?_
  refine lv_i2l hexec hb dX4_correct_91 rfl ?_
  refine g_topL (z := u 2) (hu5 2 (by decide)) ?_
  refine lv_lload hexec hb dX4_correct_92 (lv_at hl 4 rfl) ?_
  refine lv_aload_n hexec hb dX4_correct_94 rfl (lv_at hl 6 rfl) ?_
  refine g_get X hG ha (ci := 3) rfl in_X4 2 (by decide) q578 (fun _ h => h) rfl dX4_correct_95 ?_
  refine lv_i2l hexec hb dX4_correct_98 rfl ?_
  refine g_topL (z := u 2) (hu5 2 (by decide)) ?_
  refine lv_lmul hexec hb dX4_correct_99 ?_
  refine lv_ldc2 (v := 65536) hexec hb X.1.2.2.2.1 (X.1.2.2.2.2 _ q975) dX4_correct_100 ?_
  refine g_callS X (met_J11_floorDiv l K ((((u 2) * 65536) / (s_spr u va)) * (u 2)) 65536 (by decide) G_6) gp_J11_floorDiv rfl q976 q977 q52 q978 hG hS hl ⟨Nat.le_of_ble_eq_true rfl, Nat.le_of_ble_eq_true rfl⟩ ⟨(Nat.le_of_ble_eq_true rfl), (Nat.le_of_ble_eq_true rfl)⟩ (rest := [.long (u 2), .long ((u 1) + (l_fdiv ((l_fdiv ((u 3) * 65536) (s_spr u va)) * (s_miss u pl)) 65536)), .long ((u 0) + (l_fdiv ((((u 2) * 65536) / (s_spr u va)) * (s_miss u pl)) 65536)), .ref (n1), .ref (n1)]) (Nat.le_of_ble_eq_true rfl) rfl dX4_correct_103 (fun w G_7 H locs hp hG hS => ?_)
  obtain ⟨rfl, hge⟩ := hp
  rw [hge] at hG
  clear hge
  refine W.eq (g2 := F0 m 106 ls [.long (l_fdiv ((((u 2) * 65536) / (s_spr u va)) * (u 2)) 65536), .long (u 2), .long ((u 1) + (l_fdiv ((l_fdiv ((u 3) * 65536) (s_spr u va)) * (s_miss u pl)) 65536)), .long ((u 0) + (l_fdiv ((((u 2) * 65536) / (s_spr u va)) * (s_miss u pl)) 65536)), .ref (n1), .ref (n1)]) rfl ?_
  refine lv_lsub hexec hb dX4_correct_106 ?_
  refine lv_aload_n hexec hb dX4_correct_107 rfl (lv_at hl 6 rfl) ?_
  refine g_get X hG ha (ci := 3) rfl in_X4 3 (by decide) q580 (fun _ h => h) rfl dX4_correct_108 ?_
  refine lv_i2l hexec hb dX4_correct_111 rfl ?_
  refine g_topL (z := u 3) (hu5 3 (by decide)) ?_
  refine lv_lload hexec hb dX4_correct_112 (lv_at hl 4 rfl) ?_
  refine lv_aload_n hexec hb dX4_correct_114 rfl (lv_at hl 6 rfl) ?_
  refine g_get X hG ha (ci := 3) rfl in_X4 3 (by decide) q580 (fun _ h => h) rfl dX4_correct_115 ?_
  refine lv_i2l hexec hb dX4_correct_118 rfl ?_
  refine g_topL (z := u 3) (hu5 3 (by decide)) ?_
  refine lv_lmul hexec hb dX4_correct_119 ?_
  refine lv_ldc2 (v := 65536) hexec hb X.1.2.2.2.1 (X.1.2.2.2.2 _ q975) dX4_correct_120 ?_
  refine g_callS X (met_J11_floorDiv l K ((((u 2) * 65536) / (s_spr u va)) * (u 3)) 65536 (by decide) G_6) gp_J11_floorDiv rfl q976 q977 q52 q978 hG hS hl ⟨Nat.le_of_ble_eq_true rfl, Nat.le_of_ble_eq_true rfl⟩ ⟨(Nat.le_of_ble_eq_true rfl), (Nat.le_of_ble_eq_true rfl)⟩ (rest := [.long (u 3), .long ((u 2) - (l_fdiv ((((u 2) * 65536) / (s_spr u va)) * (u 2)) 65536)), .long ((u 1) + (l_fdiv ((l_fdiv ((u 3) * 65536) (s_spr u va)) * (s_miss u pl)) 65536)), .long ((u 0) + (l_fdiv ((((u 2) * 65536) / (s_spr u va)) * (s_miss u pl)) 65536)), .ref (n1), .ref (n1)]) (Nat.le_of_ble_eq_true rfl) rfl dX4_correct_123 (fun w G_8 H locs hp hG hS => ?_)
  obtain ⟨rfl, hge⟩ := hp
  rw [hge] at hG
  clear hge
  refine W.eq (g2 := F0 m 126 ls [.long (l_fdiv ((((u 2) * 65536) / (s_spr u va)) * (u 3)) 65536), .long (u 3), .long ((u 2) - (l_fdiv ((((u 2) * 65536) / (s_spr u va)) * (u 2)) 65536)), .long ((u 1) + (l_fdiv ((l_fdiv ((u 3) * 65536) (s_spr u va)) * (s_miss u pl)) 65536)), .long ((u 0) + (l_fdiv ((((u 2) * 65536) / (s_spr u va)) * (s_miss u pl)) 65536)), .ref (n1), .ref (n1)]) rfl ?_
  refine lv_lsub hexec hb dX4_correct_126 ?_
  refine lv_aload_n hexec hb dX4_correct_127 rfl (lv_at hl 6 rfl) ?_
  refine g_get X hG ha (ci := 3) rfl in_X4 4 (by decide) q582 (fun _ h => h) rfl dX4_correct_128 ?_
  refine lv_i2l hexec hb dX4_correct_131 rfl ?_
  refine g_topL (z := u 4) (hu5 4 (by decide)) ?_
  refine lv_lload hexec hb dX4_correct_132 (lv_at hl 3 rfl) ?_
  refine lv_aload_n hexec hb dX4_correct_134 rfl (lv_at hl 6 rfl) ?_
  refine g_get X hG ha (ci := 3) rfl in_X4 3 (by decide) q580 (fun _ h => h) rfl dX4_correct_135 ?_
  refine lv_i2l hexec hb dX4_correct_138 rfl ?_
  refine g_topL (z := u 3) (hu5 3 (by decide)) ?_
  refine lv_lmul hexec hb dX4_correct_139 ?_
  refine lv_ldc2 (v := 65536) hexec hb X.1.2.2.2.1 (X.1.2.2.2.2 _ q975) dX4_correct_140 ?_
  refine g_callS X (met_J11_floorDiv l K ((l_fdiv ((u 3) * 65536) (s_spr u va)) * (u 3)) 65536 (by decide) G_6) gp_J11_floorDiv rfl q976 q977 q52 q978 hG hS hl ⟨Nat.le_of_ble_eq_true rfl, Nat.le_of_ble_eq_true rfl⟩ ⟨(Nat.le_of_ble_eq_true rfl), (Nat.le_of_ble_eq_true rfl)⟩ (rest := [.long (u 4), .long ((u 3) - (l_fdiv ((((u 2) * 65536) / (s_spr u va)) * (u 3)) 65536)), .long ((u 2) - (l_fdiv ((((u 2) * 65536) / (s_spr u va)) * (u 2)) 65536)), .long ((u 1) + (l_fdiv ((l_fdiv ((u 3) * 65536) (s_spr u va)) * (s_miss u pl)) 65536)), .long ((u 0) + (l_fdiv ((((u 2) * 65536) / (s_spr u va)) * (s_miss u pl)) 65536)), .ref (n1), .ref (n1)]) (Nat.le_of_ble_eq_true rfl) rfl dX4_correct_143 (fun w G_9 H locs hp hG hS => ?_)
  obtain ⟨rfl, hge⟩ := hp
  rw [hge] at hG
  clear hge
  refine W.eq (g2 := F0 m 146 ls [.long (l_fdiv ((l_fdiv ((u 3) * 65536) (s_spr u va)) * (u 3)) 65536), .long (u 4), .long ((u 3) - (l_fdiv ((((u 2) * 65536) / (s_spr u va)) * (u 3)) 65536)), .long ((u 2) - (l_fdiv ((((u 2) * 65536) / (s_spr u va)) * (u 2)) 65536)), .long ((u 1) + (l_fdiv ((l_fdiv ((u 3) * 65536) (s_spr u va)) * (s_miss u pl)) 65536)), .long ((u 0) + (l_fdiv ((((u 2) * 65536) / (s_spr u va)) * (s_miss u pl)) 65536)), .ref (n1), .ref (n1)]) rfl ?_
  refine lv_lsub hexec hb dX4_correct_146 ?_
  refine g_callI X (met_X4_init l K G_6 10000 n1 ((u 0) + (l_fdiv ((((u 2) * 65536) / (s_spr u va)) * (s_miss u pl)) 65536)) ((u 1) + (l_fdiv ((l_fdiv ((u 3) * 65536) (s_spr u va)) * (s_miss u pl)) 65536)) ((u 2) - (l_fdiv ((((u 2) * 65536) / (s_spr u va)) * (u 2)) 65536)) ((u 3) - (l_fdiv ((((u 2) * 65536) / (s_spr u va)) * (u 3)) 65536)) ((u 4) - (l_fdiv ((l_fdiv ((u 3) * 65536) (s_spr u va)) * (u 3)) 65536)) hn1) gp_X4_init rfl rfl q557 q558 q65 q559 hG hS hl ⟨Nat.le_of_ble_eq_true rfl, Nat.le_of_ble_eq_true rfl⟩ ⟨(Nat.le_of_ble_eq_true rfl), (Nat.le_of_ble_eq_true rfl)⟩ (rest := [.ref (n1)]) (Nat.le_of_ble_eq_true rfl) rfl dX4_correct_147 (fun w G_10 H locs hp hG hS => ?_)
  obtain ⟨rfl, h_new, hu⟩ := hp
  have hE := hE.put hq hu
  have ha := (hu _ (g_ne_n ha0 hq)).trans ha
  have hn1 := h_new
  refine W.eq (g2 := F0 m 150 ls [.ref (n1)]) rfl ?_
  exact g_aret X hr (Or.inl ⟨_, rfl⟩) hG hS (Or.inr ⟨_, rfl⟩) ⟨n1, rfl, hE, hn1⟩ (Nat.le_of_ble_eq_true rfl) (Nat.le_of_ble_eq_true rfl) dX4_correct_150
