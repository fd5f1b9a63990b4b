/-! hash maps: nodes, constructors (printed by gen/jdk5.py) -/
set_option maxRecDepth 100000
theorem gp_J20_init : gPar yJ20_init 0 := ⟨⟨by decide, by decide⟩, by decide +kernel⟩
theorem gp_J23_init : gPar yJ23_init 4 := ⟨⟨by decide, by decide⟩, by decide +kernel⟩
set_option maxHeartbeats 2000000 in
set_option maxRecDepth 100000 in
theorem met_J23_initR (l : Launch) (K : gK) (G : gT) (τ a h ke : Nat) (vv : Nat) (ha : G a = some (τ, .inr (11, [.int 0, .null, .null, .null])))  : gMet l K yJ23_init cJ23_init 5 (none) 1 40 0 0 [.ref (a), .int (nI (h)), .ref (ke), .ref (vv), .null] G (fun w G1 => w = none ∧ G1 a = some (τ, .inr (11, [.int (nI (h)), .ref (ke), .ref (vv), .null])) ∧ ∀ b, b ≠ a → G1 b = G b) := by
  refine gMet.of (by decide) (Nat.le_of_ble_eq_true rfl) (fun p e s m below meth c ls hx0 hb X hr hin hG hS hl => ?_)
  have hexec := hx0
  have X : gC K p s m _ meth c cJ23_init 5 "java/util/HashMap$Node" := X
  have hl : lv_has ls 5 [(0, .ref (a)), (1, .int (nI (h))), (2, .ref (ke)), (3, .ref (vv)), (4, .null)] := hl
  have hU : ∀ b, b ≠ a → G b = G b := fun _ _ => rfl
  have hF : gF (fun _ => True) G G := gF.rf
  refine lv_aload_n hexec hb dJ23_init_0 rfl (lv_at hl 0 rfl) ?_
  refine W.objInit hexec hb X.1.2.2.2.1 (X.1.2.2.2.2 _ q717) (X.1.2.2.2.2 _ q83) (X.1.2.2.2.2 _ q84) rfl (X.1.2.2.1.trans hl.1.symm).symm rfl dJ23_init_1 (Nat.le_of_ble_eq_true rfl) (Nat.le_of_ble_eq_true rfl) ?_
  refine lv_aload_n hexec hb dJ23_init_4 rfl (lv_at hl 0 rfl) ?_
  refine lv_iload_n hexec hb dJ23_init_5 rfl (lv_at hl 1 rfl) ?_
  refine g_putF X hG hS hin ha (ci := 11) rfl in_J23 tyJ23 tyJ23_ok nmJ23 0 (by decide) q718 (fun _ h => h) rfl rfl rfl rfl (fs1 := [.int (nI (h)), .null, .null, .null]) (Nat.le_of_ble_eq_true rfl) rfl dJ23_init_6 (fun H locs hG hS => ?_)
  obtain ⟨G_2, hG, hx, hu, h_new⟩ : ∃ G1, gH K G1 H ∧ gF (fun t => t = τ) G G1 ∧ (∀ b, b ≠ a → G1 b = G b) ∧ G1 a = some (τ, .inr (11, [.int (nI (h)), .null, .null, .null])) := ⟨_, hG, gF.putO ha rfl, fun b hb => gU_ne hb, gU_self⟩
  have hF := hF.trans (hx.mono (fun t h => trivial))
  have hU := fun b hb => (hu b hb).trans (hU b hb)
  have ha := h_new
  clear h_new
  refine lv_aload_n hexec hb dJ23_init_9 rfl (lv_at hl 0 rfl) ?_
  refine lv_aload_n hexec hb dJ23_init_10 rfl (lv_at hl 2 rfl) ?_
  refine g_putF X hG hS hin ha (ci := 11) rfl in_J23 tyJ23 tyJ23_ok nmJ23 1 (by decide) q722 (fun _ h => h) rfl rfl rfl rfl (fs1 := [.int (nI (h)), .ref (ke), .null, .null]) (Nat.le_of_ble_eq_true rfl) rfl dJ23_init_11 (fun H locs hG hS => ?_)
  obtain ⟨G_4, hG, hx, hu, h_new⟩ : ∃ G1, gH K G1 H ∧ gF (fun t => t = τ) G_2 G1 ∧ (∀ b, b ≠ a → G1 b = G_2 b) ∧ G1 a = some (τ, .inr (11, [.int (nI (h)), .ref (ke), .null, .null])) := ⟨_, hG, gF.putO ha rfl, fun b hb => gU_ne hb, gU_self⟩
  have hF := hF.trans (hx.mono (fun t h => trivial))
  have hU := fun b hb => (hu b hb).trans (hU b hb)
  have ha := h_new
  clear h_new
  refine lv_aload_n hexec hb dJ23_init_14 rfl (lv_at hl 0 rfl) ?_
  refine lv_aload_n hexec hb dJ23_init_15 rfl (lv_at hl 3 rfl) ?_
  refine g_put X hG hS ha (ci := 11) rfl in_J23 tyJ23 tyJ23_ok nmJ23 2 (by decide) q726 (fun _ h => h) rfl rfl rfl (fs1 := [.int (nI (h)), .ref (ke), .ref (vv), .null]) (Nat.le_of_ble_eq_true rfl) rfl dJ23_init_16 (fun H locs hG hS => ?_)
  obtain ⟨G_6, hG, hx, hu, h_new⟩ : ∃ G1, gH K G1 H ∧ gF (fun t => t = τ) G_4 G1 ∧ (∀ b, b ≠ a → G1 b = G_4 b) ∧ G1 a = some (τ, .inr (11, [.int (nI (h)), .ref (ke), .ref (vv), .null])) := ⟨_, hG, gF.putO ha rfl, fun b hb => gU_ne hb, gU_self⟩
  have hF := hF.trans (hx.mono (fun t h => trivial))
  have hU := fun b hb => (hu b hb).trans (hU b hb)
  have ha := h_new
  clear h_new
  refine lv_aload_n hexec hb dJ23_init_19 rfl (lv_at hl 0 rfl) ?_
  refine lv_aloadN hexec hb dJ23_init_20 (lv_at hl 4 rfl) ?_
  refine g_put X hG hS ha (ci := 11) rfl in_J23 tyJ23 tyJ23_ok nmJ23 3 (by decide) q728 (fun _ h => h) rfl rfl rfl (fs1 := [.int (nI (h)), .ref (ke), .ref (vv), .null]) (Nat.le_of_ble_eq_true rfl) rfl dJ23_init_22 (fun H locs hG hS => ?_)
  obtain ⟨G_8, hG, hx, hu, h_new⟩ : ∃ G1, gH K G1 H ∧ gF (fun t => t = τ) G_6 G1 ∧ (∀ b, b ≠ a → G1 b = G_6 b) ∧ G1 a = some (τ, .inr (11, [.int (nI (h)), .ref (ke), .ref (vv), .null])) := ⟨_, hG, gF.putO ha rfl, fun b hb => gU_ne hb, gU_self⟩
  have hF := hF.trans (hx.mono (fun t h => trivial))
  have hU := fun b hb => (hu b hb).trans (hU b hb)
  have ha := h_new
  clear h_new
  exact g_vret X hr hG hS ⟨rfl, ha, hU⟩ (Nat.le_of_ble_eq_true rfl) (Nat.le_of_ble_eq_true rfl) dJ23_init_25
set_option maxHeartbeats 2000000 in
set_option maxRecDepth 100000 in
theorem met_J21_newNodeR (l : Launch) (K : gK) (G : gT) (τ hm h ke : Nat) (vv : Nat)  : gMet l K yJ21_newNode cJ21_newNode 5 (some (.object "java/util/HashMap$Node")) 2 80 1 4 [.ref (hm), .int (nI (h)), .ref (ke), .ref (vv), .null] G (fun w G1 => ∃ q, w = some (.ref q) ∧ G q = none ∧ gExt G G1 ∧ G1 q = some (τ, .inr (11, [.int (nI (h)), .ref (ke), .ref (vv), .null]))) := by
  refine gMet.of (by decide) (Nat.le_of_ble_eq_true rfl) (fun p e s m below meth c ls hx0 hb X hr hin hG hS hl => ?_)
  have hexec := hx0
  have X : gC K p s m _ meth c cJ21_newNode 5 "java/util/HashMap" := X
  have hl : lv_has ls 5 [(0, .ref (hm)), (1, .int (nI (h))), (2, .ref (ke)), (3, .ref (vv)), (4, .null)] := hl
  have hE : gExt G G := gExt.rf
  have hF : gF (fun _ => True) G G := gF.rf
  refine g_new X hG hS (ci := 11) rfl in_J23 tyJ23 tyJ23_ok q697 q713 q69 (fs := [.int (0), .null, .null, .null]) (by intro j hj; match j, hj with | 0, _ => rfl | 1, _ => rfl | 2, _ => rfl | 3, _ => rfl) (Nat.le_of_ble_eq_true rfl) (Nat.le_of_ble_eq_true rfl) dJ21_newNode_0 (τ) (fun n1 H hq hn1A hG hS => ?_)
  obtain ⟨G_1, hG, hx, hn1, hn1O⟩ : ∃ G1, gH K G1 H ∧ gExt G G1 ∧ G1 n1 = some (τ, .inr (11, [.int (0), .null, .null, .null])) ∧ G1 = gU G n1 (τ) (.inr (11, [.int (0), .null, .null, .null])) := ⟨_, hG, gExt.new hq, gU_self, rfl⟩
  have hF := hF.trans hx.gF
  have hE := hE.trans hx
  refine lv_dup hexec hb dJ21_newNode_3 rfl ?_
  refine lv_iload_n hexec hb dJ21_newNode_4 rfl (lv_at hl 1 rfl) ?_
  refine lv_aload_n hexec hb dJ21_newNode_5 rfl (lv_at hl 2 rfl) ?_
  refine lv_aload_n hexec hb dJ21_newNode_6 rfl (lv_at hl 3 rfl) ?_
  refine lv_aloadN hexec hb dJ21_newNode_7 (lv_at hl 4 rfl) ?_
  refine g_callI X (met_J23_initR l K G_1 τ n1 h ke vv hn1) gp_J23_init rfl rfl q714 q715 q69 q716 hG hS hl ⟨Nat.le_of_ble_eq_true rfl, Nat.le_of_ble_eq_true rfl⟩ ⟨(Nat.le_of_ble_eq_true rfl), (Nat.le_of_ble_eq_true rfl)⟩ (rest := [.ref (n1)]) (Nat.le_of_ble_eq_true rfl) rfl dJ21_newNode_9 (fun w G_2 H locs hp hG hS => ?_)
  obtain ⟨rfl, h_new, hu⟩ := hp
  have hE := hE.put hq hu
  have hn1 := h_new
  refine W.eq (g2 := F0 m 12 ls [.ref (n1)]) rfl ?_
  exact g_aret X hr (Or.inl ⟨_, rfl⟩) hG hS (Or.inr ⟨_, rfl⟩) ⟨n1, rfl, hq, hE, hn1⟩ (Nat.le_of_ble_eq_true rfl) (Nat.le_of_ble_eq_true rfl) dJ21_newNode_12
set_option maxHeartbeats 2000000 in
set_option maxRecDepth 100000 in
theorem met_J23_initN (l : Launch) (K : gK) (G : gT) (τ a h ke : Nat)  (ha : G a = some (τ, .inr (11, [.int 0, .null, .null, .null])))  : gMet l K yJ23_init cJ23_init 5 (none) 1 40 0 0 [.ref (a), .int (nI (h)), .ref (ke), .null, .null] G (fun w G1 => w = none ∧ G1 a = some (τ, .inr (11, [.int (nI (h)), .ref (ke), .null, .null])) ∧ ∀ b, b ≠ a → G1 b = G b) := by
  refine gMet.of (by decide) (Nat.le_of_ble_eq_true rfl) (fun p e s m below meth c ls hx0 hb X hr hin hG hS hl => ?_)
  have hexec := hx0
  have X : gC K p s m _ meth c cJ23_init 5 "java/util/HashMap$Node" := X
  have hl : lv_has ls 5 [(0, .ref (a)), (1, .int (nI (h))), (2, .ref (ke)), (3, .null), (4, .null)] := hl
  have hU : ∀ b, b ≠ a → G b = G b := fun _ _ => rfl
  have hF : gF (fun _ => True) G G := gF.rf
  refine lv_aload_n hexec hb dJ23_init_0 rfl (lv_at hl 0 rfl) ?_
  refine W.objInit hexec hb X.1.2.2.2.1 (X.1.2.2.2.2 _ q717) (X.1.2.2.2.2 _ q83) (X.1.2.2.2.2 _ q84) rfl (X.1.2.2.1.trans hl.1.symm).symm rfl dJ23_init_1 (Nat.le_of_ble_eq_true rfl) (Nat.le_of_ble_eq_true rfl) ?_
  refine lv_aload_n hexec hb dJ23_init_4 rfl (lv_at hl 0 rfl) ?_
  refine lv_iload_n hexec hb dJ23_init_5 rfl (lv_at hl 1 rfl) ?_
  refine g_putF X hG hS hin ha (ci := 11) rfl in_J23 tyJ23 tyJ23_ok nmJ23 0 (by decide) q718 (fun _ h => h) rfl rfl rfl rfl (fs1 := [.int (nI (h)), .null, .null, .null]) (Nat.le_of_ble_eq_true rfl) rfl dJ23_init_6 (fun H locs hG hS => ?_)
  obtain ⟨G_2, hG, hx, hu, h_new⟩ : ∃ G1, gH K G1 H ∧ gF (fun t => t = τ) G G1 ∧ (∀ b, b ≠ a → G1 b = G b) ∧ G1 a = some (τ, .inr (11, [.int (nI (h)), .null, .null, .null])) := ⟨_, hG, gF.putO ha rfl, fun b hb => gU_ne hb, gU_self⟩
  have hF := hF.trans (hx.mono (fun t h => trivial))
  have hU := fun b hb => (hu b hb).trans (hU b hb)
  have ha := h_new
  clear h_new
  refine lv_aload_n hexec hb dJ23_init_9 rfl (lv_at hl 0 rfl) ?_
  refine lv_aload_n hexec hb dJ23_init_10 rfl (lv_at hl 2 rfl) ?_
  refine g_putF X hG hS hin ha (ci := 11) rfl in_J23 tyJ23 tyJ23_ok nmJ23 1 (by decide) q722 (fun _ h => h) rfl rfl rfl rfl (fs1 := [.int (nI (h)), .ref (ke), .null, .null]) (Nat.le_of_ble_eq_true rfl) rfl dJ23_init_11 (fun H locs hG hS => ?_)
  obtain ⟨G_4, hG, hx, hu, h_new⟩ : ∃ G1, gH K G1 H ∧ gF (fun t => t = τ) G_2 G1 ∧ (∀ b, b ≠ a → G1 b = G_2 b) ∧ G1 a = some (τ, .inr (11, [.int (nI (h)), .ref (ke), .null, .null])) := ⟨_, hG, gF.putO ha rfl, fun b hb => gU_ne hb, gU_self⟩
  have hF := hF.trans (hx.mono (fun t h => trivial))
  have hU := fun b hb => (hu b hb).trans (hU b hb)
  have ha := h_new
  clear h_new
  refine lv_aload_n hexec hb dJ23_init_14 rfl (lv_at hl 0 rfl) ?_
  refine lv_aload_nN hexec hb dJ23_init_15 rfl (lv_at hl 3 rfl) ?_
  refine g_put X hG hS ha (ci := 11) rfl in_J23 tyJ23 tyJ23_ok nmJ23 2 (by decide) q726 (fun _ h => h) rfl rfl rfl (fs1 := [.int (nI (h)), .ref (ke), .null, .null]) (Nat.le_of_ble_eq_true rfl) rfl dJ23_init_16 (fun H locs hG hS => ?_)
  obtain ⟨G_6, hG, hx, hu, h_new⟩ : ∃ G1, gH K G1 H ∧ gF (fun t => t = τ) G_4 G1 ∧ (∀ b, b ≠ a → G1 b = G_4 b) ∧ G1 a = some (τ, .inr (11, [.int (nI (h)), .ref (ke), .null, .null])) := ⟨_, hG, gF.putO ha rfl, fun b hb => gU_ne hb, gU_self⟩
  have hF := hF.trans (hx.mono (fun t h => trivial))
  have hU := fun b hb => (hu b hb).trans (hU b hb)
  have ha := h_new
  clear h_new
  refine lv_aload_n hexec hb dJ23_init_19 rfl (lv_at hl 0 rfl) ?_
  refine lv_aloadN hexec hb dJ23_init_20 (lv_at hl 4 rfl) ?_
  refine g_put X hG hS ha (ci := 11) rfl in_J23 tyJ23 tyJ23_ok nmJ23 3 (by decide) q728 (fun _ h => h) rfl rfl rfl (fs1 := [.int (nI (h)), .ref (ke), .null, .null]) (Nat.le_of_ble_eq_true rfl) rfl dJ23_init_22 (fun H locs hG hS => ?_)
  obtain ⟨G_8, hG, hx, hu, h_new⟩ : ∃ G1, gH K G1 H ∧ gF (fun t => t = τ) G_6 G1 ∧ (∀ b, b ≠ a → G1 b = G_6 b) ∧ G1 a = some (τ, .inr (11, [.int (nI (h)), .ref (ke), .null, .null])) := ⟨_, hG, gF.putO ha rfl, fun b hb => gU_ne hb, gU_self⟩
  have hF := hF.trans (hx.mono (fun t h => trivial))
  have hU := fun b hb => (hu b hb).trans (hU b hb)
  have ha := h_new
  clear h_new
  exact g_vret X hr hG hS ⟨rfl, ha, hU⟩ (Nat.le_of_ble_eq_true rfl) (Nat.le_of_ble_eq_true rfl) dJ23_init_25
set_option maxHeartbeats 2000000 in
set_option maxRecDepth 100000 in
theorem met_J21_newNodeN (l : Launch) (K : gK) (G : gT) (τ hm h ke : Nat)   : gMet l K yJ21_newNode cJ21_newNode 5 (some (.object "java/util/HashMap$Node")) 2 80 1 4 [.ref (hm), .int (nI (h)), .ref (ke), .null, .null] G (fun w G1 => ∃ q, w = some (.ref q) ∧ G q = none ∧ gExt G G1 ∧ G1 q = some (τ, .inr (11, [.int (nI (h)), .ref (ke), .null, .null]))) := by
  refine gMet.of (by decide) (Nat.le_of_ble_eq_true rfl) (fun p e s m below meth c ls hx0 hb X hr hin hG hS hl => ?_)
  have hexec := hx0
  have X : gC K p s m _ meth c cJ21_newNode 5 "java/util/HashMap" := X
  have hl : lv_has ls 5 [(0, .ref (hm)), (1, .int (nI (h))), (2, .ref (ke)), (3, .null), (4, .null)] := hl
  have hE : gExt G G := gExt.rf
  have hF : gF (fun _ => True) G G := gF.rf
  refine g_new X hG hS (ci := 11) rfl in_J23 tyJ23 tyJ23_ok q697 q713 q69 (fs := [.int (0), .null, .null, .null]) (by intro j hj; match j, hj with | 0, _ => rfl | 1, _ => rfl | 2, _ => rfl | 3, _ => rfl) (Nat.le_of_ble_eq_true rfl) (Nat.le_of_ble_eq_true rfl) dJ21_newNode_0 (τ) (fun n1 H hq hn1A hG hS => ?_)
  obtain ⟨G_1, hG, hx, hn1, hn1O⟩ : ∃ G1, gH K G1 H ∧ gExt G G1 ∧ G1 n1 = some (τ, .inr (11, [.int (0), .null, .null, .null])) ∧ G1 = gU G n1 (τ) (.inr (11, [.int (0), .null, .null, .null])) := ⟨_, hG, gExt.new hq, gU_self, rfl⟩
  have hF := hF.trans hx.gF
  have hE := hE.trans hx
  refine lv_dup hexec hb dJ21_newNode_3 rfl ?_
  refine lv_iload_n hexec hb dJ21_newNode_4 rfl (lv_at hl 1 rfl) ?_
  refine lv_aload_n hexec hb dJ21_newNode_5 rfl (lv_at hl 2 rfl) ?_
  refine lv_aload_nN hexec hb dJ21_newNode_6 rfl (lv_at hl 3 rfl) ?_
  refine lv_aloadN hexec hb dJ21_newNode_7 (lv_at hl 4 rfl) ?_
  refine g_callI X (met_J23_initN l K G_1 τ n1 h ke  hn1) gp_J23_init rfl rfl q714 q715 q69 q716 hG hS hl ⟨Nat.le_of_ble_eq_true rfl, Nat.le_of_ble_eq_true rfl⟩ ⟨(Nat.le_of_ble_eq_true rfl), (Nat.le_of_ble_eq_true rfl)⟩ (rest := [.ref (n1)]) (Nat.le_of_ble_eq_true rfl) rfl dJ21_newNode_9 (fun w G_2 H locs hp hG hS => ?_)
  obtain ⟨rfl, h_new, hu⟩ := hp
  have hE := hE.put hq hu
  have hn1 := h_new
  refine W.eq (g2 := F0 m 12 ls [.ref (n1)]) rfl ?_
  exact g_aret X hr (Or.inl ⟨_, rfl⟩) hG hS (Or.inr ⟨_, rfl⟩) ⟨n1, rfl, hq, hE, hn1⟩ (Nat.le_of_ble_eq_true rfl) (Nat.le_of_ble_eq_true rfl) dJ21_newNode_12
set_option maxHeartbeats 2000000 in
set_option maxRecDepth 100000 in
theorem met_J21_afterNodeAccess (l : Launch) (K : gK) (G : gT) (hm a : Nat)  : gMet l K yJ21_afterNodeAccess cJ21_afterNodeAccess 2 (none) 0 0 0 0 [.ref (hm), .ref (a)] G (fun w G1 => w = none ∧ G1 = G) := by
  refine gMet.of (by decide) (Nat.le_of_ble_eq_true rfl) (fun p e s m below meth c ls hx0 hb X hr hin hG hS hl => ?_)
  have hexec := hx0
  have X : gC K p s m _ meth c cJ21_afterNodeAccess 2 "java/util/HashMap" := X
  have hl : lv_has ls 2 [(0, .ref (hm)), (1, .ref (a))] := hl
  have hF : gF (fun _ => True) G G := gF.rf
  exact g_vret X hr hG hS ⟨rfl, rfl⟩ (Nat.le_of_ble_eq_true rfl) (Nat.le_of_ble_eq_true rfl) dJ21_afterNodeAccess_0
set_option maxHeartbeats 2000000 in
set_option maxRecDepth 100000 in
theorem met_J21_afterNodeInsertion (l : Launch) (K : gK) (G : gT) (hm : Nat) (b : Int32)  : gMet l K yJ21_afterNodeInsertion cJ21_afterNodeInsertion 2 (none) 0 0 0 0 [.ref (hm), .int (b)] G (fun w G1 => w = none ∧ G1 = G) := by
  refine gMet.of (by decide) (Nat.le_of_ble_eq_true rfl) (fun p e s m below meth c ls hx0 hb X hr hin hG hS hl => ?_)
  have hexec := hx0
  have X : gC K p s m _ meth c cJ21_afterNodeInsertion 2 "java/util/HashMap" := X
  have hl : lv_has ls 2 [(0, .ref (hm)), (1, .int (b))] := hl
  have hF : gF (fun _ => True) G G := gF.rf
  exact g_vret X hr hG hS ⟨rfl, rfl⟩ (Nat.le_of_ble_eq_true rfl) (Nat.le_of_ble_eq_true rfl) dJ21_afterNodeInsertion_0
set_option maxHeartbeats 2000000 in
set_option maxRecDepth 100000 in
theorem met_J20_init (l : Launch) (K : gK) (G : gT) (a : Nat)  : gMet l K yJ20_init cJ20_init 1 (none) 1 40 0 0 [.ref (a)] G (fun w G1 => w = none ∧ G1 = G) := by
  refine gMet.of (by decide) (Nat.le_of_ble_eq_true rfl) (fun p e s m below meth c ls hx0 hb X hr hin hG hS hl => ?_)
  have hexec := hx0
  have X : gC K p s m _ meth c cJ20_init 1 "java/util/AbstractMap" := X
  have hl : lv_has ls 1 [(0, .ref (a))] := hl
  have hF : gF (fun _ => True) G G := gF.rf
  refine lv_aload_n hexec hb dJ20_init_0 rfl (lv_at hl 0 rfl) ?_
  refine W.objInit hexec hb X.1.2.2.2.1 (X.1.2.2.2.2 _ q517) (X.1.2.2.2.2 _ q83) (X.1.2.2.2.2 _ q84) rfl (X.1.2.2.1.trans hl.1.symm).symm rfl dJ20_init_1 (Nat.le_of_ble_eq_true rfl) (Nat.le_of_ble_eq_true rfl) ?_
  exact g_vret X hr hG hS ⟨rfl, rfl⟩ (Nat.le_of_ble_eq_true rfl) (Nat.le_of_ble_eq_true rfl) dJ20_init_4
set_option maxHeartbeats 2000000 in
set_option maxRecDepth 100000 in
theorem met_J18_init (l : Launch) (K : gK) (G : gT) (a : Nat)  : gMet l K yJ18_init cJ18_init 1 (none) 2 76 0 0 [.ref (a)] G (fun w G1 => w = none ∧ G1 = G) := by
  refine gMet.of (by decide) (Nat.le_of_ble_eq_true rfl) (fun p e s m below meth c ls hx0 hb X hr hin hG hS hl => ?_)
  have hexec := hx0
  have X : gC K p s m _ meth c cJ18_init 1 "java/util/AbstractSet" := X
  have hl : lv_has ls 1 [(0, .ref (a))] := hl
  have hF : gF (fun _ => True) G G := gF.rf
  refine lv_aload_n hexec hb dJ18_init_0 rfl (lv_at hl 0 rfl) ?_
  refine g_callI X (met_J0_init l K G a) gp_J0_init rfl rfl q508 q95 q39 q96 hG hS hl ⟨Nat.le_of_ble_eq_true rfl, Nat.le_of_ble_eq_true rfl⟩ ⟨(Nat.le_of_ble_eq_true rfl), (Nat.le_of_ble_eq_true rfl)⟩ (rest := []) (Nat.le_of_ble_eq_true rfl) rfl dJ18_init_1 (fun w G_1 H locs hp hG hS => ?_)
  obtain ⟨rfl, hge⟩ := hp
  rw [hge] at hG
  clear hge
  refine W.eq (g2 := F0 m 4 ls []) rfl ?_
  exact g_vret X hr hG hS ⟨rfl, rfl⟩ (Nat.le_of_ble_eq_true rfl) (Nat.le_of_ble_eq_true rfl) dJ18_init_4
set_option maxHeartbeats 2000000 in
set_option maxRecDepth 100000 in
theorem met_J21_init (l : Launch) (K : gK) (G : gT) (τ hm : Nat) (hh : G hm = some (τ, .inr (9, [.null, .null, .null, .null, .int (0), .int (0), .int (0), .float (0)])))  : gMet l K yJ21_init cJ21_init 1 (none) 2 76 0 0 [.ref (hm)] G (fun w G1 => w = none ∧ G1 hm = some (τ, .inr (9, [.null, .null, .null, .null, .int (0), .int (0), .int (0), .float (1061158912)])) ∧ ∀ b, b ≠ hm → G1 b = G b) := by
  refine gMet.of (by decide) (Nat.le_of_ble_eq_true rfl) (fun p e s m below meth c ls hx0 hb X hr hin hG hS hl => ?_)
  have hexec := hx0
  have X : gC K p s m _ meth c cJ21_init 1 "java/util/HashMap" := X
  have hl : lv_has ls 1 [(0, .ref (hm))] := hl
  have hF : gF (fun _ => True) G G := gF.rf
  refine lv_aload_n hexec hb dJ21_init_0 rfl (lv_at hl 0 rfl) ?_
  refine g_callI X (met_J20_init l K G hm) gp_J20_init rfl rfl q514 q515 q63 q516 hG hS hl ⟨Nat.le_of_ble_eq_true rfl, Nat.le_of_ble_eq_true rfl⟩ ⟨(Nat.le_of_ble_eq_true rfl), (Nat.le_of_ble_eq_true rfl)⟩ (rest := []) (Nat.le_of_ble_eq_true rfl) rfl dJ21_init_1 (fun w G_1 H locs hp hG hS => ?_)
  obtain ⟨rfl, hge⟩ := hp
  rw [hge] at hG
  clear hge
  refine W.eq (g2 := F0 m 4 ls []) rfl ?_
  refine lv_aload_n hexec hb dJ21_init_4 rfl (lv_at hl 0 rfl) ?_
  refine lv_ldcf hexec hb X.1.2.2.2.1 (X.1.2.2.2.2 _ q518) dJ21_init_5 ?_
  refine g_putF X hG hS hin hh (ci := 9) rfl in_J21 tyJ21 tyJ21_ok nmJ21 7 (by decide) q523 (fun _ h => h) rfl rfl rfl rfl (fs1 := [.null, .null, .null, .null, .int (0), .int (0), .int (0), .float (1061158912)]) (Nat.le_of_ble_eq_true rfl) rfl dJ21_init_7 (fun H locs hG hS => ?_)
  obtain ⟨G_3, hG, hx, hu, h_new⟩ : ∃ G1, gH K G1 H ∧ gF (fun t => t = τ) G G1 ∧ (∀ b, b ≠ hm → G1 b = G b) ∧ G1 hm = some (τ, .inr (9, [.null, .null, .null, .null, .int (0), .int (0), .int (0), .float (1061158912)])) := ⟨_, hG, gF.putO hh rfl, fun b hb => gU_ne hb, gU_self⟩
  have hF := hF.trans (hx.mono (fun t h => trivial))
  have hh := h_new
  clear h_new
  exact g_vret X hr hG hS ⟨rfl, hh, hu⟩ (Nat.le_of_ble_eq_true rfl) (Nat.le_of_ble_eq_true rfl) dJ21_init_10
