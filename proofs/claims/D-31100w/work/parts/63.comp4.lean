/-! the component: Track (printed by gen/comp4.py) -/
set_option maxRecDepth 100000
theorem gp_J2_add : gPar yJ2_add 1 := ⟨⟨by decide, by decide⟩, by decide +kernel⟩
theorem gp_J2_init : gPar yJ2_init 0 := ⟨⟨by decide, by decide⟩, by decide +kernel⟩
section ALR
variable {p : Program} {l : Launch} {e : Env} {R : Room} {s : State} {m : MethodId} {args : Array Value} {below : List Frame} {meth : Method} {c : Code} {H : Heap} {cc : ByteArray} {K : gK} {own : String} {nL : Nat} {G : gT}
theorem isAL.recv (X : gC K p s m args meth c cc nL own) (hG : gH K G H) {τ al : Nat} {xs : List Nat} (h : isAL K G τ al xs) : ∃ cell : Cell, H[al]? = some cell ∧ cell.vm.isStatics = false ∧ s.vm.findClass "java/util/ArrayList" = some cell.cls := by
  obtain ⟨md, ar, h1, _⟩ := h
  exact gRecv X hG h1 (ci := 8) rfl rfl
end ALR
theorem elt_st {K : gK} {G : gT} {a : Nat} {u : Nat → Int64} (h : G a = some (10000, stO u)) : gElt K G a := ⟨_, gObj.mk h (ci := 3) (r := (RX4, TX4, 5)) rfl, by decide⟩
set_option maxHeartbeats 2000000 in
set_option maxRecDepth 100000 in
theorem met_X8_init (l : Launch) (K : gK) (G : gT) (τ τ1 τ2 τ3 q be st : Nat) (u : Nat → Int64) (h01 : τ ≠ τ1) (h02 : τ ≠ τ2) (h03 : τ ≠ τ3) (h12 : τ1 ≠ τ2) (h13 : τ1 ≠ τ3) (h23 : τ2 ≠ τ3) (hi0 : τ ≠ 10000) (hi1 : τ1 ≠ 10000) (hi2 : τ2 ≠ 10000) (hi3 : τ3 ≠ 10000) (hst : G st = some (10000, stO u)) (hq0 : G q = some (τ, .inr (7, [.int 0, .null, .null, .null, .null, .int 0, .int 0, .int 0, .int 0])))  : gMet l K yX8_init cX8_init 3 (none) 9 457 5 29 [.ref (q), .int (nI (be)), .ref (st)] G (fun w G1 => w = none ∧ ∃ a1 a2 a3, G1 q = some (τ, .inr (7, [.int (nI be), .ref a1, .ref a2, .ref a3, .ref st, .int 1, .int 0, .int 1, .int 0])) ∧ isAL K G1 τ1 a1 [st] ∧ isAL K G1 τ2 a2 [st] ∧ isAL K G1 τ3 a3 [] ∧ gF (fun t => t = τ ∨ t = τ1 ∨ t = τ2 ∨ t = τ3) G G1) := by
  refine gMet.of (by decide) (Nat.le_of_ble_eq_true rfl) (fun p e s m below meth c ls hx0 hb X hr hin hG hS hl => ?_)
  have hexec := hx0
  have X : gC K p s m _ meth c cX8_init 3 "KalmanQuay$Track" := X
  have hl : lv_has ls 3 [(0, .ref (q)), (1, .int (nI (be))), (2, .ref (st))] := hl
  have hF : gF (fun t => t = τ ∨ t = τ1 ∨ t = τ2 ∨ t = τ3) G G := gF.rf
  refine lv_aload_n hexec hb dX8_init_0 rfl (lv_at hl 0 rfl) ?_
  refine W.objInit hexec hb X.1.2.2.2.1 (X.1.2.2.2.2 _ q1021) (X.1.2.2.2.2 _ q83) (X.1.2.2.2.2 _ q84) rfl (X.1.2.2.1.trans hl.1.symm).symm rfl dX8_init_1 (Nat.le_of_ble_eq_true rfl) (Nat.le_of_ble_eq_true rfl) ?_
  refine lv_aload_n hexec hb dX8_init_4 rfl (lv_at hl 0 rfl) ?_
  refine g_new X hG hS (ci := 8) rfl in_J2 tyJ2 tyJ2_ok q1022 q87 q41 (fs := [.int (0), .null, .int (0)]) (by intro j hj; match j, hj with | 0, _ => rfl | 1, _ => rfl | 2, _ => rfl) (Nat.le_of_ble_eq_true rfl) (Nat.le_of_ble_eq_true rfl) dX8_init_5 (τ1) (fun n1 H hq hn1A hG hS => ?_)
  have ne_hq0_n1 := g_ne_n hq0 hq
  have ne_hst_n1 := g_ne_n hst hq
  obtain ⟨G_1, hG, hx, hn1, hn1O⟩ : ∃ G1, gH K G1 H ∧ gExt G G1 ∧ G1 n1 = some (τ1, .inr (8, [.int (0), .null, .int (0)])) ∧ G1 = gU G n1 (τ1) (.inr (8, [.int (0), .null, .int (0)])) := ⟨_, hG, gExt.new hq, gU_self, rfl⟩
  have hF := hF.trans hx.gF
  have hq0 := hx _ _ _ hq0
  have hst := hx _ _ _ hst
  refine lv_dup hexec hb dX8_init_8 rfl ?_
  refine g_callI X (met_J2_init l K G_1 (τ1) n1 hn1) gp_J2_init rfl rfl q1023 q89 q41 q90 hG hS hl ⟨Nat.le_of_ble_eq_true rfl, Nat.le_of_ble_eq_true rfl⟩ ⟨(Nat.le_of_ble_eq_true rfl), (Nat.le_of_ble_eq_true rfl)⟩ (rest := [.ref (n1), .ref (q)]) (Nat.le_of_ble_eq_true rfl) rfl dX8_init_9 (fun w G_2 H locs hp hG hS => ?_)
  obtain ⟨rfl, h_L, hx⟩ := hp
  have hq0 := hx.1 _ _ _ hq0 (by omega)
  have hst := hx.1 _ _ _ hst (by omega)
  have hF := hF.trans (hx.mono (fun t h => Or.inr (Or.inl h)))
  have hLn1 := h_L
  refine W.eq (g2 := F0 m 12 ls [.ref (n1), .ref (q)]) rfl ?_
  refine g_putF X hG hS hin hq0 (ci := 7) rfl in_X8 tyX8 tyX8_ok nmX8 1 (by decide) q1027 (fun _ h => h) rfl rfl rfl rfl (fs1 := [.int (0), .ref (n1), .null, .null, .null, .int (0), .int (0), .int (0), .int (0)]) (Nat.le_of_ble_eq_true rfl) rfl dX8_init_12 (fun H locs hG hS => ?_)
  obtain ⟨G_4, hG, hx, hu, h_new, h_hst⟩ : ∃ G1, gH K G1 H ∧ gF (fun t => t = τ) G_2 G1 ∧ (∀ b, b ≠ q → G1 b = G_2 b) ∧ G1 q = some (τ, .inr (7, [.int (0), .ref (n1), .null, .null, .null, .int (0), .int (0), .int (0), .int (0)])) ∧ G1 st = some (10000, .inr (3, [.int ((u 0).toInt32), .int ((u 1).toInt32), .int ((u 2).toInt32), .int ((u 3).toInt32), .int ((u 4).toInt32)])) := ⟨_, hG, gF.putO hq0 rfl, fun b hb => gU_ne hb, gU_self, (gU_ne (g_ne_t hst hq0 (by omega))).trans hst⟩
  have hLn1 := hLn1.fr1 hx (by omega)
  have hF := hF.trans (hx.mono (fun t h => Or.inl h))
  have hq0 := h_new
  have hst := h_hst
  clear h_new h_hst
  refine lv_aload_n hexec hb dX8_init_15 rfl (lv_at hl 0 rfl) ?_
  refine g_new X hG hS (ci := 8) rfl in_J2 tyJ2 tyJ2_ok q1022 q87 q41 (fs := [.int (0), .null, .int (0)]) (by intro j hj; match j, hj with | 0, _ => rfl | 1, _ => rfl | 2, _ => rfl) (Nat.le_of_ble_eq_true rfl) (Nat.le_of_ble_eq_true rfl) dX8_init_16 (τ2) (fun n2 H hq hn2A hG hS => ?_)
  have ne_hq0_n2 := g_ne_n hq0 hq
  have ne_hst_n2 := g_ne_n hst hq
  obtain ⟨G_5, hG, hx, hn2, hn2O⟩ : ∃ G1, gH K G1 H ∧ gExt G_4 G1 ∧ G1 n2 = some (τ2, .inr (8, [.int (0), .null, .int (0)])) ∧ G1 = gU G_4 n2 (τ2) (.inr (8, [.int (0), .null, .int (0)])) := ⟨_, hG, gExt.new hq, gU_self, rfl⟩
  have hF := hF.trans hx.gF
  have hq0 := hx _ _ _ hq0
  have hst := hx _ _ _ hst
  have hLn1 := hLn1.ext hx
  refine lv_dup hexec hb dX8_init_19 rfl ?_
  refine g_callI X (met_J2_init l K G_5 (τ2) n2 hn2) gp_J2_init rfl rfl q1023 q89 q41 q90 hG hS hl ⟨Nat.le_of_ble_eq_true rfl, Nat.le_of_ble_eq_true rfl⟩ ⟨(Nat.le_of_ble_eq_true rfl), (Nat.le_of_ble_eq_true rfl)⟩ (rest := [.ref (n2), .ref (q)]) (Nat.le_of_ble_eq_true rfl) rfl dX8_init_20 (fun w G_6 H locs hp hG hS => ?_)
  obtain ⟨rfl, h_L, hx⟩ := hp
  have hq0 := hx.1 _ _ _ hq0 (by omega)
  have hst := hx.1 _ _ _ hst (by omega)
  have hLn1 := hLn1.fr1 hx (by omega)
  have hF := hF.trans (hx.mono (fun t h => Or.inr (Or.inr (Or.inl h))))
  have hLn2 := h_L
  refine W.eq (g2 := F0 m 23 ls [.ref (n2), .ref (q)]) rfl ?_
  refine g_putF X hG hS hin hq0 (ci := 7) rfl in_X8 tyX8 tyX8_ok nmX8 2 (by decide) q1029 (fun _ h => h) rfl rfl rfl rfl (fs1 := [.int (0), .ref (n1), .ref (n2), .null, .null, .int (0), .int (0), .int (0), .int (0)]) (Nat.le_of_ble_eq_true rfl) rfl dX8_init_23 (fun H locs hG hS => ?_)
  obtain ⟨G_8, hG, hx, hu, h_new, h_hst⟩ : ∃ G1, gH K G1 H ∧ gF (fun t => t = τ) G_6 G1 ∧ (∀ b, b ≠ q → G1 b = G_6 b) ∧ G1 q = some (τ, .inr (7, [.int (0), .ref (n1), .ref (n2), .null, .null, .int (0), .int (0), .int (0), .int (0)])) ∧ G1 st = some (10000, .inr (3, [.int ((u 0).toInt32), .int ((u 1).toInt32), .int ((u 2).toInt32), .int ((u 3).toInt32), .int ((u 4).toInt32)])) := ⟨_, hG, gF.putO hq0 rfl, fun b hb => gU_ne hb, gU_self, (gU_ne (g_ne_t hst hq0 (by omega))).trans hst⟩
  have hLn1 := hLn1.fr1 hx (by omega)
  have hLn2 := hLn2.fr1 hx (by omega)
  have hF := hF.trans (hx.mono (fun t h => Or.inl h))
  have hq0 := h_new
  have hst := h_hst
  clear h_new h_hst
  refine lv_aload_n hexec hb dX8_init_26 rfl (lv_at hl 0 rfl) ?_
  refine g_new X hG hS (ci := 8) rfl in_J2 tyJ2 tyJ2_ok q1022 q87 q41 (fs := [.int (0), .null, .int (0)]) (by intro j hj; match j, hj with | 0, _ => rfl | 1, _ => rfl | 2, _ => rfl) (Nat.le_of_ble_eq_true rfl) (Nat.le_of_ble_eq_true rfl) dX8_init_27 (τ3) (fun n3 H hq hn3A hG hS => ?_)
  have ne_hq0_n3 := g_ne_n hq0 hq
  have ne_hst_n3 := g_ne_n hst hq
  obtain ⟨G_9, hG, hx, hn3, hn3O⟩ : ∃ G1, gH K G1 H ∧ gExt G_8 G1 ∧ G1 n3 = some (τ3, .inr (8, [.int (0), .null, .int (0)])) ∧ G1 = gU G_8 n3 (τ3) (.inr (8, [.int (0), .null, .int (0)])) := ⟨_, hG, gExt.new hq, gU_self, rfl⟩
  have hF := hF.trans hx.gF
  have hq0 := hx _ _ _ hq0
  have hst := hx _ _ _ hst
  have hLn1 := hLn1.ext hx
  have hLn2 := hLn2.ext hx
  refine lv_dup hexec hb dX8_init_30 rfl ?_
  refine g_callI X (met_J2_init l K G_9 (τ3) n3 hn3) gp_J2_init rfl rfl q1023 q89 q41 q90 hG hS hl ⟨Nat.le_of_ble_eq_true rfl, Nat.le_of_ble_eq_true rfl⟩ ⟨(Nat.le_of_ble_eq_true rfl), (Nat.le_of_ble_eq_true rfl)⟩ (rest := [.ref (n3), .ref (q)]) (Nat.le_of_ble_eq_true rfl) rfl dX8_init_31 (fun w G_10 H locs hp hG hS => ?_)
  obtain ⟨rfl, h_L, hx⟩ := hp
  have hq0 := hx.1 _ _ _ hq0 (by omega)
  have hst := hx.1 _ _ _ hst (by omega)
  have hLn1 := hLn1.fr1 hx (by omega)
  have hLn2 := hLn2.fr1 hx (by omega)
  have hF := hF.trans (hx.mono (fun t h => Or.inr (Or.inr (Or.inr h))))
  have hLn3 := h_L
  refine W.eq (g2 := F0 m 34 ls [.ref (n3), .ref (q)]) rfl ?_
  refine g_putF X hG hS hin hq0 (ci := 7) rfl in_X8 tyX8 tyX8_ok nmX8 3 (by decide) q1031 (fun _ h => h) rfl rfl rfl rfl (fs1 := [.int (0), .ref (n1), .ref (n2), .ref (n3), .null, .int (0), .int (0), .int (0), .int (0)]) (Nat.le_of_ble_eq_true rfl) rfl dX8_init_34 (fun H locs hG hS => ?_)
  obtain ⟨G_12, hG, hx, hu, h_new, h_hst⟩ : ∃ G1, gH K G1 H ∧ gF (fun t => t = τ) G_10 G1 ∧ (∀ b, b ≠ q → G1 b = G_10 b) ∧ G1 q = some (τ, .inr (7, [.int (0), .ref (n1), .ref (n2), .ref (n3), .null, .int (0), .int (0), .int (0), .int (0)])) ∧ G1 st = some (10000, .inr (3, [.int ((u 0).toInt32), .int ((u 1).toInt32), .int ((u 2).toInt32), .int ((u 3).toInt32), .int ((u 4).toInt32)])) := ⟨_, hG, gF.putO hq0 rfl, fun b hb => gU_ne hb, gU_self, (gU_ne (g_ne_t hst hq0 (by omega))).trans hst⟩
  have hLn1 := hLn1.fr1 hx (by omega)
  have hLn2 := hLn2.fr1 hx (by omega)
  have hLn3 := hLn3.fr1 hx (by omega)
  have hF := hF.trans (hx.mono (fun t h => Or.inl h))
  have hq0 := h_new
  have hst := h_hst
  clear h_new h_hst
  refine lv_aload_n hexec hb dX8_init_37 rfl (lv_at hl 0 rfl) ?_
  refine lv_iconst (v := 1) hexec hb dX8_init_38 (by decide) ?_
  refine g_put X hG hS hq0 (ci := 7) rfl in_X8 tyX8 tyX8_ok nmX8 5 (by decide) q1035 (fun _ h => h) rfl rfl rfl (fs1 := [.int (0), .ref (n1), .ref (n2), .ref (n3), .null, .int (1), .int (0), .int (0), .int (0)]) (Nat.le_of_ble_eq_true rfl) rfl dX8_init_39 (fun H locs hG hS => ?_)
  obtain ⟨G_14, hG, hx, hu, h_new, h_hst⟩ : ∃ G1, gH K G1 H ∧ gF (fun t => t = τ) G_12 G1 ∧ (∀ b, b ≠ q → G1 b = G_12 b) ∧ G1 q = some (τ, .inr (7, [.int (0), .ref (n1), .ref (n2), .ref (n3), .null, .int (1), .int (0), .int (0), .int (0)])) ∧ G1 st = some (10000, .inr (3, [.int ((u 0).toInt32), .int ((u 1).toInt32), .int ((u 2).toInt32), .int ((u 3).toInt32), .int ((u 4).toInt32)])) := ⟨_, hG, gF.putO hq0 rfl, fun b hb => gU_ne hb, gU_self, (gU_ne (g_ne_t hst hq0 (by omega))).trans hst⟩
  have hLn1 := hLn1.fr1 hx (by omega)
  have hLn2 := hLn2.fr1 hx (by omega)
  have hLn3 := hLn3.fr1 hx (by omega)
  have hF := hF.trans (hx.mono (fun t h => Or.inl h))
  have hq0 := h_new
  have hst := h_hst
  clear h_new h_hst
  refine lv_aload_n hexec hb dX8_init_42 rfl (lv_at hl 0 rfl) ?_
  refine lv_iconst (v := 1) hexec hb dX8_init_43 (by decide) ?_
  refine g_put X hG hS hq0 (ci := 7) rfl in_X8 tyX8 tyX8_ok nmX8 7 (by decide) q1038 (fun _ h => h) rfl rfl rfl (fs1 := [.int (0), .ref (n1), .ref (n2), .ref (n3), .null, .int (1), .int (0), .int (1), .int (0)]) (Nat.le_of_ble_eq_true rfl) rfl dX8_init_44 (fun H locs hG hS => ?_)
  obtain ⟨G_16, hG, hx, hu, h_new, h_hst⟩ : ∃ G1, gH K G1 H ∧ gF (fun t => t = τ) G_14 G1 ∧ (∀ b, b ≠ q → G1 b = G_14 b) ∧ G1 q = some (τ, .inr (7, [.int (0), .ref (n1), .ref (n2), .ref (n3), .null, .int (1), .int (0), .int (1), .int (0)])) ∧ G1 st = some (10000, .inr (3, [.int ((u 0).toInt32), .int ((u 1).toInt32), .int ((u 2).toInt32), .int ((u 3).toInt32), .int ((u 4).toInt32)])) := ⟨_, hG, gF.putO hq0 rfl, fun b hb => gU_ne hb, gU_self, (gU_ne (g_ne_t hst hq0 (by omega))).trans hst⟩
  have hLn1 := hLn1.fr1 hx (by omega)
  have hLn2 := hLn2.fr1 hx (by omega)
  have hLn3 := hLn3.fr1 hx (by omega)
  have hF := hF.trans (hx.mono (fun t h => Or.inl h))
  have hq0 := h_new
  have hst := h_hst
  clear h_new h_hst
  refine lv_aload_n hexec hb dX8_init_47 rfl (lv_at hl 0 rfl) ?_
  refine lv_iload_n hexec hb dX8_init_48 rfl (lv_at hl 1 rfl) ?_
  refine g_putF X hG hS hin hq0 (ci := 7) rfl in_X8 tyX8 tyX8_ok nmX8 0 (by decide) q1025 (fun _ h => h) rfl rfl rfl rfl (fs1 := [.int (nI (be)), .ref (n1), .ref (n2), .ref (n3), .null, .int (1), .int (0), .int (1), .int (0)]) (Nat.le_of_ble_eq_true rfl) rfl dX8_init_49 (fun H locs hG hS => ?_)
  obtain ⟨G_18, hG, hx, hu, h_new, h_hst⟩ : ∃ G1, gH K G1 H ∧ gF (fun t => t = τ) G_16 G1 ∧ (∀ b, b ≠ q → G1 b = G_16 b) ∧ G1 q = some (τ, .inr (7, [.int (nI (be)), .ref (n1), .ref (n2), .ref (n3), .null, .int (1), .int (0), .int (1), .int (0)])) ∧ G1 st = some (10000, .inr (3, [.int ((u 0).toInt32), .int ((u 1).toInt32), .int ((u 2).toInt32), .int ((u 3).toInt32), .int ((u 4).toInt32)])) := ⟨_, hG, gF.putO hq0 rfl, fun b hb => gU_ne hb, gU_self, (gU_ne (g_ne_t hst hq0 (by omega))).trans hst⟩
  have hLn1 := hLn1.fr1 hx (by omega)
  have hLn2 := hLn2.fr1 hx (by omega)
  have hLn3 := hLn3.fr1 hx (by omega)
  have hF := hF.trans (hx.mono (fun t h => Or.inl h))
  have hq0 := h_new
  have hst := h_hst
  clear h_new h_hst
  refine lv_aload_n hexec hb dX8_init_52 rfl (lv_at hl 0 rfl) ?_
  refine lv_aload_n hexec hb dX8_init_53 rfl (lv_at hl 2 rfl) ?_
  refine g_put X hG hS hq0 (ci := 7) rfl in_X8 tyX8 tyX8_ok nmX8 4 (by decide) q1033 (fun _ h => h) rfl rfl rfl (fs1 := [.int (nI (be)), .ref (n1), .ref (n2), .ref (n3), .ref (st), .int (1), .int (0), .int (1), .int (0)]) (Nat.le_of_ble_eq_true rfl) rfl dX8_init_54 (fun H locs hG hS => ?_)
  obtain ⟨G_20, hG, hx, hu, h_new, h_hst⟩ : ∃ G1, gH K G1 H ∧ gF (fun t => t = τ) G_18 G1 ∧ (∀ b, b ≠ q → G1 b = G_18 b) ∧ G1 q = some (τ, .inr (7, [.int (nI (be)), .ref (n1), .ref (n2), .ref (n3), .ref (st), .int (1), .int (0), .int (1), .int (0)])) ∧ G1 st = some (10000, .inr (3, [.int ((u 0).toInt32), .int ((u 1).toInt32), .int ((u 2).toInt32), .int ((u 3).toInt32), .int ((u 4).toInt32)])) := ⟨_, hG, gF.putO hq0 rfl, fun b hb => gU_ne hb, gU_self, (gU_ne (g_ne_t hst hq0 (by omega))).trans hst⟩
  have hLn1 := hLn1.fr1 hx (by omega)
  have hLn2 := hLn2.fr1 hx (by omega)
  have hLn3 := hLn3.fr1 hx (by omega)
  have hF := hF.trans (hx.mono (fun t h => Or.inl h))
  have hq0 := h_new
  have hst := h_hst
  clear h_new h_hst
  refine lv_aload_n hexec hb dX8_init_57 rfl (lv_at hl 0 rfl) ?_
  refine g_get X hG hq0 (ci := 7) rfl in_X8 1 (by decide) q1027 (fun _ h => h) rfl dX8_init_58 ?_
  refine lv_aload_n hexec hb dX8_init_61 rfl (lv_at hl 2 rfl) ?_
  refine g_callV X (met_J2_add l K G_20 (τ1) n1 st ([]) hLn1 (elt_st hst) (by decide)) gp_J2_add rfl q1024 q221 (C := "java/util/ArrayList") q222 q41 q223 hG hS (hLn1.recv X hG) hl ⟨Nat.le_of_ble_eq_true rfl, Nat.le_of_ble_eq_true rfl⟩ ⟨(Nat.le_of_ble_eq_true rfl), (Nat.le_of_ble_eq_true rfl)⟩ (rest := []) (Nat.le_of_ble_eq_true rfl) rfl dX8_init_62 (fun w G_21 H locs hp hG hS => ?_)
  obtain ⟨rfl, h_L, hx⟩ := hp
  have hq0 := hx.1 _ _ _ hq0 (by omega)
  have hst := hx.1 _ _ _ hst (by omega)
  have hLn2 := hLn2.fr1 hx (by omega)
  have hLn3 := hLn3.fr1 hx (by omega)
  have hF := hF.trans (hx.mono (fun t h => Or.inr (Or.inl h)))
  have hLn1 := h_L
  refine W.eq (g2 := F0 m 65 ls [.int (1)]) rfl ?_
  refine lv_pop hexec hb dX8_init_65 rfl ?_
  refine lv_aload_n hexec hb dX8_init_66 rfl (lv_at hl 0 rfl) ?_
  refine g_get X hG hq0 (ci := 7) rfl in_X8 2 (by decide) q1029 (fun _ h => h) rfl dX8_init_67 ?_
  refine lv_aload_n hexec hb dX8_init_70 rfl (lv_at hl 2 rfl) ?_
  refine g_callV X (met_J2_add l K G_21 (τ2) n2 st ([]) hLn2 (elt_st hst) (by decide)) gp_J2_add rfl q1024 q221 (C := "java/util/ArrayList") q222 q41 q223 hG hS (hLn2.recv X hG) hl ⟨Nat.le_of_ble_eq_true rfl, Nat.le_of_ble_eq_true rfl⟩ ⟨(Nat.le_of_ble_eq_true rfl), (Nat.le_of_ble_eq_true rfl)⟩ (rest := []) (Nat.le_of_ble_eq_true rfl) rfl dX8_init_71 (fun w G_22 H locs hp hG hS => ?_)
  obtain ⟨rfl, h_L, hx⟩ := hp
  have hq0 := hx.1 _ _ _ hq0 (by omega)
  have hst := hx.1 _ _ _ hst (by omega)
  have hLn3 := hLn3.fr1 hx (by omega)
  have hLn1 := hLn1.fr1 hx (by omega)
  have hF := hF.trans (hx.mono (fun t h => Or.inr (Or.inr (Or.inl h))))
  have hLn2 := h_L
  refine W.eq (g2 := F0 m 74 ls [.int (1)]) rfl ?_
  refine lv_pop hexec hb dX8_init_74 rfl ?_
  exact g_vret X hr hG hS ⟨rfl, n1, n2, n3, hq0, hLn1, hLn2, hLn3, hF⟩ (Nat.le_of_ble_eq_true rfl) (Nat.le_of_ble_eq_true rfl) dX8_init_75
