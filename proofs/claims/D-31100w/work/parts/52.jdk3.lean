/-! hash maps: keys, nodes (printed by gen/jdk3.py) -/
set_option maxRecDepth 100000
theorem gp_J9_hashCode_2 : gPar yJ9_hashCode_2 1 := ⟨⟨by decide, by decide⟩, by decide +kernel⟩
theorem gp_J9_intValue : gPar yJ9_intValue 0 := ⟨⟨by decide, by decide⟩, by decide +kernel⟩
set_option maxHeartbeats 2000000 in
set_option maxRecDepth 100000 in
theorem met_J9_hashCode_2 (l : Launch) (K : gK) (G : gT) (x : Int32)  : gMet l K yJ9_hashCode_2 cJ9_hashCode_2 1 (some .int) 0 0 0 0 [.int (x)] G (fun w G1 => w = some (.int x) ∧ G1 = G) := by
  refine gMet.of (by decide) (Nat.le_of_ble_eq_true rfl) (fun p e s m below meth c ls hx0 hb X hr hin hG hS hl => ?_)
  have hexec := hx0
  have X : gC K p s m _ meth c cJ9_hashCode_2 1 "java/lang/Integer" := X
  have hl : lv_has ls 1 [(0, .int (x))] := hl
  have hF : gF (fun _ => True) G G := gF.rf
  refine lv_iload_n hexec hb dJ9_hashCode_2_0 rfl (lv_at hl 0 rfl) ?_
  exact g_iret X hr hG hS ⟨rfl, rfl⟩ (Nat.le_of_ble_eq_true rfl) (Nat.le_of_ble_eq_true rfl) dJ9_hashCode_2_1
set_option maxHeartbeats 2000000 in
set_option maxRecDepth 100000 in
theorem met_J9_hashCode (l : Launch) (K : gK) (G : gT) (v : Nat) (x : Int32) (hv : isI K G v x)  : gMet l K yJ9_hashCode cJ9_hashCode 1 (some .int) 1 36 0 0 [.ref (v)] G (fun w G1 => w = some (.int x) ∧ G1 = G) := by
  refine gMet.of (by decide) (Nat.le_of_ble_eq_true rfl) (fun p e s m below meth c ls hx0 hb X hr hin hG hS hl => ?_)
  have hexec := hx0
  have X : gC K p s m _ meth c cJ9_hashCode 1 "java/lang/Integer" := X
  have hl : lv_has ls 1 [(0, .ref (v))] := hl
  have hF : gF (fun _ => True) G G := gF.rf
  refine lv_aload_n hexec hb dJ9_hashCode_0 rfl (lv_at hl 0 rfl) ?_
  refine g_getI X hG hS hv q216 dJ9_hashCode_1 ?_
  refine g_callS X (met_J9_hashCode_2 l K G x) gp_J9_hashCode_2 rfl q676 q677 q49 q678 hG hS hl ⟨Nat.le_of_ble_eq_true rfl, Nat.le_of_ble_eq_true rfl⟩ ⟨(Nat.le_of_ble_eq_true rfl), (Nat.le_of_ble_eq_true rfl)⟩ (rest := []) (Nat.le_of_ble_eq_true rfl) rfl dJ9_hashCode_4 (fun w G_1 H locs hp hG hS => ?_)
  obtain ⟨rfl, hge⟩ := hp
  rw [hge] at hG
  clear hge
  refine W.eq (g2 := F0 m 7 ls [.int (x)]) rfl ?_
  exact g_iret X hr hG hS ⟨rfl, rfl⟩ (Nat.le_of_ble_eq_true rfl) (Nat.le_of_ble_eq_true rfl) dJ9_hashCode_7
set_option maxHeartbeats 2000000 in
set_option maxRecDepth 100000 in
theorem met_X5_hashCode (l : Launch) (K : gK) (G : gT) (v t u : Nat) (hv : G v = some (10000, .inr (4, [.int (nI t), .int (nI u)])))  : gMet l K yX5_hashCode cX5_hashCode 1 (some .int) 0 0 0 0 [.ref (v)] G (fun w G1 => w = some (.int (nI (8 * t + u))) ∧ G1 = G) := by
  refine gMet.of (by decide) (Nat.le_of_ble_eq_true rfl) (fun p e s m below meth c ls hx0 hb X hr hin hG hS hl => ?_)
  have hexec := hx0
  have X : gC K p s m _ meth c cX5_hashCode 1 "KalmanQuay$Pair" := X
  have hl : lv_has ls 1 [(0, .ref (v))] := hl
  have hF : gF (fun _ => True) G G := gF.rf
  refine lv_bipush (v := 8) hexec hb dX5_hashCode_0 (by decide) ?_
  refine lv_aload_n hexec hb dX5_hashCode_2 rfl (lv_at hl 0 rfl) ?_
  refine g_get X hG hv (ci := 4) rfl in_X5 0 (by decide) q621 (fun _ h => h) rfl dX5_hashCode_3 ?_
  refine lv_imul hexec hb dX5_hashCode_6 ?_
  refine g_topN (n_mul (a := 8) (b := t) rfl rfl) ?_
  refine lv_aload_n hexec hb dX5_hashCode_7 rfl (lv_at hl 0 rfl) ?_
  refine g_get X hG hv (ci := 4) rfl in_X5 1 (by decide) q622 (fun _ h => h) rfl dX5_hashCode_8 ?_
  refine lv_iadd hexec hb dX5_hashCode_11 ?_
  refine g_topN (n_add (a := 8 * t) (b := u) rfl rfl) ?_
  exact g_iret X hr hG hS ⟨rfl, rfl⟩ (Nat.le_of_ble_eq_true rfl) (Nat.le_of_ble_eq_true rfl) dX5_hashCode_12
set_option maxHeartbeats 2000000 in
set_option maxRecDepth 100000 in
theorem met_J9_equals (l : Launch) (K : gK) (G : gT) (v v2 h : Nat) (hh : h < 65536) (hv : isI K G v (nI h)) (h2 : isI K G v2 (nI h))  : gMet l K yJ9_equals cJ9_equals 2 (some .boolean) 1 36 0 0 [.ref (v), .ref (v2)] G (fun w G1 => w = some (.int 1) ∧ G1 = G) := by
  refine gMet.of (by decide) (Nat.le_of_ble_eq_true rfl) (fun p e s m below meth c ls hx0 hb X hr hin hG hS hl => ?_)
  have hexec := hx0
  have X : gC K p s m _ meth c cJ9_equals 2 "java/lang/Integer" := X
  have hl : lv_has ls 2 [(0, .ref (v)), (1, .ref (v2))] := hl
  have hF : gF (fun _ => True) G G := gF.rf
  refine lv_aload_n hexec hb dJ9_equals_0 rfl (lv_at hl 1 rfl) ?_
  refine g_instE X hG hS h2.obj q207 dJ9_equals_1 ?_
  refine g_ifn_eq hexec hb 27 dJ9_equals_4 (by decide) (a := 1) rfl (by decide) (fun c_4 => ?_) (fun c_4 => ?_)
  · exact absurd c_4 (by decide)
  · skip
    refine lv_aload_n hexec hb dJ9_equals_7 rfl (lv_at hl 0 rfl) ?_
    refine g_getI X hG hS hv q216 dJ9_equals_8 ?_
    refine lv_aload_n hexec hb dJ9_equals_11 rfl (lv_at hl 1 rfl) ?_
    refine g_castE X hG hS h2.obj q207 dJ9_equals_12 ?_
    refine g_callV X (met_J9_intValue l K G v2 (nI h) h2) gp_J9_intValue rfl q825 q547 (C := "java/lang/Integer") q548 q49 q549 hG hS (h2.obj.recv X hG hS) hl ⟨Nat.le_of_ble_eq_true rfl, Nat.le_of_ble_eq_true rfl⟩ ⟨(Nat.le_of_ble_eq_true rfl), (Nat.le_of_ble_eq_true rfl)⟩ (rest := [.int (nI (h))]) (Nat.le_of_ble_eq_true rfl) rfl dJ9_equals_15 (fun w G_1 H locs hp hG hS => ?_)
    obtain ⟨rfl, hge⟩ := hp
    rw [hge] at hG
    clear hge
    refine W.eq (g2 := F0 m 18 ls [.int (nI (h)), .int (nI (h))]) rfl ?_
    refine g_icmp_ne hexec hb 25 dJ9_equals_18 (by decide) (a := h) (b := h) rfl rfl (by omega) (by omega) (fun c_18 => ?_) (fun c_18 => ?_)
    · skip
      exact absurd rfl c_18
    · skip
      refine lv_iconst (v := 1) hexec hb dJ9_equals_21 (by decide) ?_
      refine lv_goto (tgt := 26) hexec hb dJ9_equals_22 (by decide) ?_
      exact g_zret X hr hG hS rfl ⟨rfl, rfl⟩ (Nat.le_of_ble_eq_true rfl) (Nat.le_of_ble_eq_true rfl) dJ9_equals_26
set_option maxHeartbeats 2000000 in
set_option maxRecDepth 100000 in
theorem met_X5_equals (l : Launch) (K : gK) (G : gT) (v v2 t u t2 u2 : Nat) (hb1 : 8 * t + u < 65536) (hb2 : 8 * t2 + u2 = 8 * t + u) (hu1 : u < 8) (hu2 : u2 < 8) (hv : G v = some (10000, .inr (4, [.int (nI t), .int (nI u)]))) (h2 : G v2 = some (10000, .inr (4, [.int (nI t2), .int (nI u2)])))  : gMet l K yX5_equals cX5_equals 3 (some .boolean) 0 0 0 0 [.ref (v), .ref (v2)] G (fun w G1 => w = some (.int 1) ∧ G1 = G) := by
  refine gMet.of (by decide) (Nat.le_of_ble_eq_true rfl) (fun p e s m below meth c ls hx0 hb X hr hin hG hS hl => ?_)
  have hexec := hx0
  have X : gC K p s m _ meth c cX5_equals 3 "KalmanQuay$Pair" := X
  have hl : lv_has ls 3 [(0, .ref (v)), (1, .ref (v2))] := hl
  have hF : gF (fun _ => True) G G := gF.rf
  refine lv_aload_n hexec hb dX5_equals_0 rfl (lv_at hl 1 rfl) ?_
  refine g_instE X hG hS (gObj.mk h2 (r := (RX5, TX5, 2)) rfl) q814 dX5_equals_1 ?_
  refine g_ifn_eq hexec hb 38 dX5_equals_4 (by decide) (a := 1) rfl (by decide) (fun c_4 => ?_) (fun c_4 => ?_)
  · exact absurd c_4 (by decide)
  · skip
    refine lv_aload_n hexec hb dX5_equals_7 rfl (lv_at hl 1 rfl) ?_
    refine g_castE X hG hS (gObj.mk h2 (r := (RX5, TX5, 2)) rfl) q814 dX5_equals_8 ?_
    refine lv_astore_n (lv' := [(2, .ref (v2)), (0, .ref (v)), (1, .ref (v2))]) hexec hb dX5_equals_11 rfl hl (by decide) rfl (fun ls hl => ?_)
    refine lv_aload_n hexec hb dX5_equals_12 rfl (lv_at hl 0 rfl) ?_
    refine g_get X hG h2 (ci := 4) rfl in_X5 0 (by decide) q621 (fun _ h => h) rfl dX5_equals_13 ?_
    refine lv_aload_n hexec hb dX5_equals_16 rfl (lv_at hl 1 rfl) ?_
    refine g_get X hG hv (ci := 4) rfl in_X5 0 (by decide) q621 (fun _ h => h) rfl dX5_equals_17 ?_
    refine g_icmp_ne hexec hb 38 dX5_equals_20 (by decide) (a := t2) (b := t) rfl rfl (by omega) (by omega) (fun c_20 => ?_) (fun c_20 => ?_)
    · skip
      exact absurd c_20 (by omega)
    · skip
      refine lv_aload_n hexec hb dX5_equals_23 rfl (lv_at hl 0 rfl) ?_
      refine g_get X hG h2 (ci := 4) rfl in_X5 1 (by decide) q622 (fun _ h => h) rfl dX5_equals_24 ?_
      refine lv_aload_n hexec hb dX5_equals_27 rfl (lv_at hl 1 rfl) ?_
      refine g_get X hG hv (ci := 4) rfl in_X5 1 (by decide) q622 (fun _ h => h) rfl dX5_equals_28 ?_
      refine g_icmp_ne hexec hb 38 dX5_equals_31 (by decide) (a := u2) (b := u) rfl rfl (by omega) (by omega) (fun c_31 => ?_) (fun c_31 => ?_)
      · skip
        exact absurd c_31 (by omega)
      · skip
        refine lv_iconst (v := 1) hexec hb dX5_equals_34 (by decide) ?_
        refine lv_goto (tgt := 39) hexec hb dX5_equals_35 (by decide) ?_
        exact g_zret X hr hG hS rfl ⟨rfl, rfl⟩ (Nat.le_of_ble_eq_true rfl) (Nat.le_of_ble_eq_true rfl) dX5_equals_39
