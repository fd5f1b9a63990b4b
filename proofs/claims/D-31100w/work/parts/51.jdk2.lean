/-! lists, boxes (printed by gen/jdk2.py) -/
set_option maxRecDepth 100000
theorem gp_J16_checkIndex : gPar yJ16_checkIndex 2 := ⟨⟨by decide, by decide⟩, by decide +kernel⟩
theorem gp_J17_checkIndex : gPar yJ17_checkIndex 3 := ⟨⟨by decide, by decide⟩, by decide +kernel⟩
theorem gp_J22_init : gPar yJ22_init 1 := ⟨⟨by decide, by decide⟩, by decide +kernel⟩
theorem gp_J2_elementData : gPar yJ2_elementData 1 := ⟨⟨by decide, by decide⟩, by decide +kernel⟩
theorem gp_J8_init : gPar yJ8_init 0 := ⟨⟨by decide, by decide⟩, by decide +kernel⟩
theorem gp_J9_init : gPar yJ9_init 1 := ⟨⟨by decide, by decide⟩, by decide +kernel⟩
set_option maxHeartbeats 2000000 in
set_option maxRecDepth 100000 in
theorem met_J17_checkIndex (l : Launch) (K : gK) (G : gT) (i n : Nat) (hi : i < n) (hn : n < 2147483648)  : gMet l K yJ17_checkIndex cJ17_checkIndex 3 (some .int) 0 0 0 0 [.int (nI (i)), .int (nI (n)), .null] G (fun w G1 => w = some (.int (nI i)) ∧ G1 = G) := by
  refine gMet.of (by decide) (Nat.le_of_ble_eq_true rfl) (fun p e s m below meth c ls hx0 hb X hr hin hG hS hl => ?_)
  have hexec := hx0
  have X : gC K p s m _ meth c cJ17_checkIndex 3 "jdk/internal/util/Preconditions" := X
  have hl : lv_has ls 3 [(0, .int (nI (i))), (1, .int (nI (n))), (2, .null)] := hl
  have hF : gF (fun _ => True) G G := gF.rf
  refine lv_iload_n hexec hb dJ17_checkIndex_0 rfl (lv_at hl 0 rfl) ?_
  refine g_ifn_lt hexec hb 9 dJ17_checkIndex_1 (by decide) (a := i) rfl (by omega) (fun c_1 => ?_) (fun c_1 => ?_)
  · skip
    exact absurd c_1 (Nat.not_lt_zero _)
  · skip
    refine lv_iload_n hexec hb dJ17_checkIndex_4 rfl (lv_at hl 0 rfl) ?_
    refine lv_iload_n hexec hb dJ17_checkIndex_5 rfl (lv_at hl 1 rfl) ?_
    refine g_icmp_lt hexec hb 16 dJ17_checkIndex_6 (by decide) (a := i) (b := n) rfl rfl (by omega) (by omega) (fun c_6 => ?_) (fun c_6 => ?_)
    · skip
      refine lv_iload_n hexec hb dJ17_checkIndex_16 rfl (lv_at hl 0 rfl) ?_
      exact g_iret X hr hG hS ⟨rfl, rfl⟩ (Nat.le_of_ble_eq_true rfl) (Nat.le_of_ble_eq_true rfl) dJ17_checkIndex_17
    · skip
      exact absurd hi (by omega)
set_option maxHeartbeats 2000000 in
set_option maxRecDepth 100000 in
theorem met_J16_checkIndex (l : Launch) (K : gK) (G : gT) (i n : Nat) (hi : i < n) (hn : n < 2147483648)  : gMet l K yJ16_checkIndex cJ16_checkIndex 2 (some .int) 1 38 0 0 [.int (nI (i)), .int (nI (n))] G (fun w G1 => w = some (.int (nI i)) ∧ G1 = G) := by
  refine gMet.of (by decide) (Nat.le_of_ble_eq_true rfl) (fun p e s m below meth c ls hx0 hb X hr hin hG hS hl => ?_)
  have hexec := hx0
  have X : gC K p s m _ meth c cJ16_checkIndex 2 "java/util/Objects" := X
  have hl : lv_has ls 2 [(0, .int (nI (i))), (1, .int (nI (n)))] := hl
  have hF : gF (fun _ => True) G G := gF.rf
  refine lv_iload_n hexec hb dJ16_checkIndex_0 rfl (lv_at hl 0 rfl) ?_
  refine lv_iload_n hexec hb dJ16_checkIndex_1 rfl (lv_at hl 1 rfl) ?_
  refine lv_null hexec hb dJ16_checkIndex_2 ?_
  refine g_callS X (met_J17_checkIndex l K G (i) (n) hi hn) gp_J17_checkIndex rfl q192 q193 q60 q194 hG hS hl ⟨Nat.le_of_ble_eq_true rfl, Nat.le_of_ble_eq_true rfl⟩ ⟨(Nat.le_of_ble_eq_true rfl), (Nat.le_of_ble_eq_true rfl)⟩ (rest := []) (Nat.le_of_ble_eq_true rfl) rfl dJ16_checkIndex_3 (fun w G_1 H locs hp hG hS => ?_)
  obtain ⟨rfl, hge⟩ := hp
  rw [hge] at hG
  clear hge
  refine W.eq (g2 := F0 m 6 ls [.int (nI (i))]) rfl ?_
  exact g_iret X hr hG hS ⟨rfl, rfl⟩ (Nat.le_of_ble_eq_true rfl) (Nat.le_of_ble_eq_true rfl) dJ16_checkIndex_6
set_option maxHeartbeats 2000000 in
set_option maxRecDepth 100000 in
theorem met_J2_elementData (l : Launch) (K : gK) (G : gT) (τ al ar cap i v : Nat) (md : Int32) (f : Nat → Option Nat) (xs : List Nat) (hal : G al = some (τ, alO md ar xs.length)) (har : G ar = some (τ, rowC K cap f)) (hle : xs.length ≤ cap) (hc : cap < 1000000) (hf : ∀ i, i < xs.length → f i = xs[i]?) (hv : xs[i]? = some v)  : gMet l K yJ2_elementData cJ2_elementData 2 (some (.object "java/lang/Object")) 0 0 0 0 [.ref (al), .int (nI (i))] G (fun w G1 => w = some (.ref v) ∧ G1 = G) := by
  refine gMet.of (by decide) (Nat.le_of_ble_eq_true rfl) (fun p e s m below meth c ls hx0 hb X hr hin hG hS hl => ?_)
  have hexec := hx0
  have X : gC K p s m _ meth c cJ2_elementData 2 "java/util/ArrayList" := X
  have hl : lv_has ls 2 [(0, .ref (al)), (1, .int (nI (i)))] := hl
  have hi : i < xs.length := (List.getElem?_eq_some_iff.mp hv).1
  have hF : gF (fun _ => True) G G := gF.rf
  refine lv_aload_n hexec hb dJ2_elementData_0 rfl (lv_at hl 0 rfl) ?_
  refine g_get X hG hal (ci := 8) rfl in_J2 1 (by decide) q100 (fun _ h => h) rfl dJ2_elementData_1 ?_
  refine lv_iload_n hexec hb dJ2_elementData_4 rfl (lv_at hl 1 rfl) ?_
  refine g_aald X hG 3 rfl rfl har rfl (by omega) (by omega) ((hf i hi).trans hv) dJ2_elementData_5 ?_
  exact g_aret X hr (Or.inl ⟨_, rfl⟩) hG hS (Or.inr ⟨_, rfl⟩) ⟨rfl, rfl⟩ (Nat.le_of_ble_eq_true rfl) (Nat.le_of_ble_eq_true rfl) dJ2_elementData_6
set_option maxHeartbeats 2000000 in
set_option maxRecDepth 100000 in
theorem met_J2_getr (l : Launch) (K : gK) (G : gT) (τ al ar cap i v : Nat) (md : Int32) (f : Nat → Option Nat) (xs : List Nat) (hal : G al = some (τ, alO md ar xs.length)) (har : G ar = some (τ, rowC K cap f)) (hle : xs.length ≤ cap) (hc : cap < 1000000) (hf : ∀ i, i < xs.length → f i = xs[i]?) (hv : xs[i]? = some v)  : gMet l K yJ2_get cJ2_get 2 (some (.object "java/lang/Object")) 4 250 0 0 [.ref (al), .int (nI (i))] G (fun w G1 => w = some (.ref v) ∧ G1 = G) := by
  refine gMet.of (by decide) (Nat.le_of_ble_eq_true rfl) (fun p e s m below meth c ls hx0 hb X hr hin hG hS hl => ?_)
  have hexec := hx0
  have X : gC K p s m _ meth c cJ2_get 2 "java/util/ArrayList" := X
  have hl : lv_has ls 2 [(0, .ref (al)), (1, .int (nI (i)))] := hl
  have hi : i < xs.length := (List.getElem?_eq_some_iff.mp hv).1
  have hF : gF (fun _ => True) G G := gF.rf
  refine lv_iload_n hexec hb dJ2_get_0 rfl (lv_at hl 1 rfl) ?_
  refine lv_aload_n hexec hb dJ2_get_1 rfl (lv_at hl 0 rfl) ?_
  refine g_get X hG hal (ci := 8) rfl in_J2 2 (by decide) q101 (fun _ h => h) rfl dJ2_get_2 ?_
  refine g_callS X (met_J16_checkIndex l K G (i) (xs.length) hi (by omega)) gp_J16_checkIndex rfl q189 q190 q59 q191 hG hS hl ⟨Nat.le_of_ble_eq_true rfl, Nat.le_of_ble_eq_true rfl⟩ ⟨(Nat.le_of_ble_eq_true rfl), (Nat.le_of_ble_eq_true rfl)⟩ (rest := []) (Nat.le_of_ble_eq_true rfl) rfl dJ2_get_5 (fun w G_1 H locs hp hG hS => ?_)
  obtain ⟨rfl, hge⟩ := hp
  rw [hge] at hG
  clear hge
  refine W.eq (g2 := F0 m 8 ls [.int (nI (i))]) rfl ?_
  refine lv_pop hexec hb dJ2_get_8 rfl ?_
  refine lv_aload_n hexec hb dJ2_get_9 rfl (lv_at hl 0 rfl) ?_
  refine lv_iload_n hexec hb dJ2_get_10 rfl (lv_at hl 1 rfl) ?_
  refine g_callV X (met_J2_elementData l K G τ al ar cap i v md f xs hal har hle hc hf hv) gp_J2_elementData rfl q195 q196 (C := "java/util/ArrayList") q197 q41 q198 hG hS (gRecv X hG hal (ci := 8) rfl rfl) hl ⟨Nat.le_of_ble_eq_true rfl, Nat.le_of_ble_eq_true rfl⟩ ⟨(Nat.le_of_ble_eq_true rfl), (Nat.le_of_ble_eq_true rfl)⟩ (rest := []) (Nat.le_of_ble_eq_true rfl) rfl dJ2_get_11 (fun w G_2 H locs hp hG hS => ?_)
  obtain ⟨rfl, hge⟩ := hp
  rw [hge] at hG
  clear hge
  refine W.eq (g2 := F0 m 14 ls [.ref (v)]) rfl ?_
  exact g_aret X hr (Or.inl ⟨_, rfl⟩) hG hS (Or.inr ⟨_, rfl⟩) ⟨rfl, rfl⟩ (Nat.le_of_ble_eq_true rfl) (Nat.le_of_ble_eq_true rfl) dJ2_get_14
theorem met_J2_get (l : Launch) (K : gK) (G : gT) (τ al i v : Nat) (xs : List Nat) (h : isAL K G τ al xs) (hv : xs[i]? = some v) : gMet l K yJ2_get cJ2_get 2 (some (.object "java/lang/Object")) 4 250 0 0 [.ref al, .int (nI i)] G (fun w G1 => w = some (.ref v) ∧ G1 = G) := by
  obtain ⟨md, ar, hal, hxs, h3⟩ := h
  rcases h3 with ⟨rfl, rfl⟩ | ⟨cap, f, har, h10, hle, hc, hf⟩
  · cases hv
  · exact met_J2_getr l K G τ al ar cap i v md f xs hal har hle hc hf hv
set_option maxHeartbeats 2000000 in
set_option maxRecDepth 100000 in
theorem met_J2_sizer (l : Launch) (K : gK) (G : gT) (τ al ar : Nat) (md : Int32) (xs : List Nat) (hal : G al = some (τ, alO md ar xs.length))  : gMet l K yJ2_size cJ2_size 1 (some .int) 0 0 0 0 [.ref (al)] G (fun w G1 => w = some (.int (nI xs.length)) ∧ G1 = G) := by
  refine gMet.of (by decide) (Nat.le_of_ble_eq_true rfl) (fun p e s m below meth c ls hx0 hb X hr hin hG hS hl => ?_)
  have hexec := hx0
  have X : gC K p s m _ meth c cJ2_size 1 "java/util/ArrayList" := X
  have hl : lv_has ls 1 [(0, .ref (al))] := hl
  have hF : gF (fun _ => True) G G := gF.rf
  refine lv_aload_n hexec hb dJ2_size_0 rfl (lv_at hl 0 rfl) ?_
  refine g_get X hG hal (ci := 8) rfl in_J2 2 (by decide) q101 (fun _ h => h) rfl dJ2_size_1 ?_
  exact g_iret X hr hG hS ⟨rfl, rfl⟩ (Nat.le_of_ble_eq_true rfl) (Nat.le_of_ble_eq_true rfl) dJ2_size_4
theorem met_J2_size (l : Launch) (K : gK) (G : gT) (τ al : Nat) (xs : List Nat) (h : isAL K G τ al xs) : gMet l K yJ2_size cJ2_size 1 (some .int) 0 0 0 0 [.ref al] G (fun w G1 => w = some (.int (nI xs.length)) ∧ G1 = G) := by
  obtain ⟨md, ar, hal, _⟩ := h
  exact met_J2_sizer l K G τ al ar md xs hal
theorem isAL.len {K : gK} {G : gT} {τ al : Nat} {xs : List Nat} (h : isAL K G τ al xs) : xs.length < 1000000 := by
  obtain ⟨md, ar, hal, hxs, h3⟩ := h
  rcases h3 with ⟨rfl, rfl⟩ | ⟨cap, f, har, h10, hle, hc, hf⟩
  · decide
  · omega
set_option maxHeartbeats 2000000 in
set_option maxRecDepth 100000 in
theorem met_J2_isEmptyr (l : Launch) (K : gK) (G : gT) (τ al ar : Nat) (md : Int32) (xs : List Nat) (hn : xs.length < 1000000) (hal : G al = some (τ, alO md ar xs.length))  : gMet l K yJ2_isEmpty cJ2_isEmpty 1 (some .boolean) 0 0 0 0 [.ref (al)] G (fun w G1 => w = some (.int (if xs.length = 0 then 1 else 0)) ∧ G1 = G) := by
  refine gMet.of (by decide) (Nat.le_of_ble_eq_true rfl) (fun p e s m below meth c ls hx0 hb X hr hin hG hS hl => ?_)
  have hexec := hx0
  have X : gC K p s m _ meth c cJ2_isEmpty 1 "java/util/ArrayList" := X
  have hl : lv_has ls 1 [(0, .ref (al))] := hl
  have hF : gF (fun _ => True) G G := gF.rf
  refine lv_aload_n hexec hb dJ2_isEmpty_0 rfl (lv_at hl 0 rfl) ?_
  refine g_get X hG hal (ci := 8) rfl in_J2 2 (by decide) q101 (fun _ h => h) rfl dJ2_isEmpty_1 ?_
  refine g_ifn_ne hexec hb 11 dJ2_isEmpty_4 (by decide) (a := xs.length) rfl (by omega) (fun c_4 => ?_) (fun c_4 => ?_)
  · skip
    refine lv_iconst (v := 0) hexec hb dJ2_isEmpty_11 (by decide) ?_
    exact g_zret X hr hG hS rfl ⟨by rw [if_neg c_4], rfl⟩ (Nat.le_of_ble_eq_true rfl) (Nat.le_of_ble_eq_true rfl) dJ2_isEmpty_12
  · skip
    refine lv_iconst (v := 1) hexec hb dJ2_isEmpty_7 (by decide) ?_
    refine lv_goto (tgt := 12) hexec hb dJ2_isEmpty_8 (by decide) ?_
    exact g_zret X hr hG hS rfl ⟨by rw [if_pos c_4], rfl⟩ (Nat.le_of_ble_eq_true rfl) (Nat.le_of_ble_eq_true rfl) dJ2_isEmpty_12
theorem met_J2_isEmpty (l : Launch) (K : gK) (G : gT) (τ al : Nat) (xs : List Nat) (h : isAL K G τ al xs) : gMet l K yJ2_isEmpty cJ2_isEmpty 1 (some .boolean) 0 0 0 0 [.ref al] G (fun w G1 => w = some (.int (if xs.length = 0 then 1 else 0)) ∧ G1 = G) := by
  have hn := h.len
  obtain ⟨md, ar, hal, _⟩ := h
  exact met_J2_isEmptyr l K G τ al ar md xs hn hal
set_option maxHeartbeats 2000000 in
set_option maxRecDepth 100000 in
theorem met_J2_clearA (l : Launch) (K : gK) (G : gT) (τ al ar cap : Nat) (md : Int32) (f : Nat → Option Nat) (xs : List Nat) (hal : G al = some (τ, alO md ar xs.length)) (har : G ar = some (τ, rowC K cap f)) (h10 : 10 ≤ cap) (hle : xs.length ≤ cap) (hc : cap < 1000000)  : gMet l K yJ2_clear cJ2_clear 4 (none) 0 0 0 0 [.ref (al)] G (fun w G1 => w = none ∧ isAL K G1 τ al [] ∧ gF (fun t => t = τ) G G1) := by
  refine gMet.of (by decide) (Nat.le_of_ble_eq_true rfl) (fun p e s m below meth c ls hx0 hb X hr hin hG hS hl => ?_)
  have hexec := hx0
  have X : gC K p s m _ meth c cJ2_clear 4 "java/util/ArrayList" := X
  have hl : lv_has ls 4 [(0, .ref (al))] := hl
  have hF : gF (fun t => t = τ) G G := gF.rf
  refine lv_aload_n hexec hb dJ2_clear_0 rfl (lv_at hl 0 rfl) ?_
  refine lv_dup hexec hb dJ2_clear_1 rfl ?_
  refine g_get X hG hal (ci := 8) rfl in_J2 0 (by decide) q103 (u_same (X.1.2.2.2.2 _ q104)) rfl dJ2_clear_2 ?_
  refine lv_iconst (v := 1) hexec hb dJ2_clear_5 (by decide) ?_
  refine lv_iadd hexec hb dJ2_clear_6 ?_
  refine g_put X hG hS hal (ci := 8) rfl in_J2 tyJ2 tyJ2_ok nmJ2 0 (by decide) q103 (u_same (X.1.2.2.2.2 _ q104)) rfl rfl rfl (fs1 := [.int (md + 1), .ref (ar), .int (nI (xs.length))]) (Nat.le_of_ble_eq_true rfl) rfl dJ2_clear_7 (fun H locs hG hS => ?_)
  obtain ⟨G_2, hG, hx, hu, h_new, h_har⟩ : ∃ G1, gH K G1 H ∧ gF (fun t => t = τ) G G1 ∧ (∀ b, b ≠ al → G1 b = G b) ∧ G1 al = some (τ, .inr (8, [.int (md + 1), .ref (ar), .int (nI (xs.length))])) ∧ G1 ar = some (τ, rowC K cap f) := ⟨_, hG, gF.putO hal rfl, fun b hb => gU_ne hb, gU_self, (gU_ne (g_ne_k har hal)).trans har⟩
  have hF := hF.trans (hx.mono (fun t h => h))
  have hal := h_new
  have har := h_har
  clear h_new h_har
  refine lv_aload_n hexec hb dJ2_clear_10 rfl (lv_at hl 0 rfl) ?_
  refine g_get X hG hal (ci := 8) rfl in_J2 1 (by decide) q100 (fun _ h => h) rfl dJ2_clear_11 ?_
  refine lv_astore_n (lv' := [(1, .ref (ar)), (0, .ref (al))]) hexec hb dJ2_clear_14 rfl hl (by decide) rfl (fun ls hl => ?_)
  refine lv_aload_n hexec hb dJ2_clear_15 rfl (lv_at hl 1 rfl) ?_
  refine g_get X hG hal (ci := 8) rfl in_J2 2 (by decide) q101 (fun _ h => h) rfl dJ2_clear_16 ?_
  refine lv_istore_n (lv' := [(2, .int (nI (xs.length))), (1, .ref (ar)), (0, .ref (al))]) hexec hb dJ2_clear_19 rfl hl (by decide) rfl (fun ls hl => ?_)
  refine lv_aload_n hexec hb dJ2_clear_20 rfl (lv_at hl 2 rfl) ?_
  refine lv_iconst (v := 0) hexec hb dJ2_clear_21 (by decide) ?_
  refine lv_dup_x1 hexec hb dJ2_clear_22 rfl rfl ?_
  refine g_put X hG hS hal (ci := 8) rfl in_J2 tyJ2 tyJ2_ok nmJ2 2 (by decide) q101 (fun _ h => h) rfl rfl rfl (fs1 := [.int (md + 1), .ref (ar), .int (0)]) (Nat.le_of_ble_eq_true rfl) rfl dJ2_clear_23 (fun H locs hG hS => ?_)
  obtain ⟨G_4, hG, hx, hu, h_new, h_har⟩ : ∃ G1, gH K G1 H ∧ gF (fun t => t = τ) G_2 G1 ∧ (∀ b, b ≠ al → G1 b = G_2 b) ∧ G1 al = some (τ, .inr (8, [.int (md + 1), .ref (ar), .int (0)])) ∧ G1 ar = some (τ, rowC K cap f) := ⟨_, hG, gF.putO hal rfl, fun b hb => gU_ne hb, gU_self, (gU_ne (g_ne_k har hal)).trans har⟩
  have hF := hF.trans (hx.mono (fun t h => h))
  have hal := h_new
  have har := h_har
  clear h_new h_har
  refine lv_istore_n (lv' := [(3, .int (0)), (2, .int (nI (xs.length))), (1, .ref (ar)), (0, .ref (al))]) hexec hb dJ2_clear_26 rfl hl (by decide) rfl (fun ls hl => ?_)
  have loop_27 : ∀ (n_ i : Nat) (Gl : gT) (g : Nat → Option Nat) (H : Heap) (locs : List Loc) (ls : Array Slot), i + n_ = xs.length → Gl al = some (τ, .inr (8, [.int (md + 1), .ref (ar), .int (0)])) → Gl ar = some (τ, rowC K cap g) → gF (fun t => t = τ) G Gl → gH K Gl H → va_S (gA K) s.heap H locs → lv_has ls 4 [(3, .int (nI (i))), (2, .int (nI (xs.length))), (1, .ref (ar)), (0, .ref (al))] → W p l e ({ frames := 0, cells := 0, slots := 0, locals := 0 } : Room) s m ([.ref (al)] : List Value).toArray below meth c H locs 0 0 (MQ below (gQ K (fun w G1 => w = none ∧ isAL K G1 τ al [] ∧ gF (fun t => t = τ) G G1)) ([.ref (al)] : List Value).toArray s 0 0 (gA K)) (F0 m 27 ls []) := by
    intro n_
    induction n_ with
    | zero =>
      intro i Gl g H locs ls hi_27 hal har hF hG hS hl
      refine lv_iload_n hexec hb dJ2_clear_27 rfl (lv_at hl 0 rfl) ?_
      refine lv_iload_n hexec hb dJ2_clear_28 rfl (lv_at hl 1 rfl) ?_
      refine g_icmp_ge hexec hb 42 dJ2_clear_29 (by decide) (a := i) (b := xs.length) rfl rfl (by omega) (by omega) (fun c_29 => ?_) (fun c_29 => ?_)
      · skip
        exact g_vret X hr hG hS ⟨rfl, ⟨md + 1, ar, hal, fun x hx => absurd hx (by simp), Or.inr ⟨cap, g, har, h10, Nat.zero_le _, hc, fun i hi => absurd hi (Nat.not_lt_zero i)⟩⟩, hF⟩ (Nat.le_of_ble_eq_true rfl) (Nat.le_of_ble_eq_true rfl) dJ2_clear_42
      · skip
        exact absurd c_29 (by omega)
    | succ n_ ih_27 =>
      intro i Gl g H locs ls hi_27 hal har hF hG hS hl
      refine lv_iload_n hexec hb dJ2_clear_27 rfl (lv_at hl 0 rfl) ?_
      refine lv_iload_n hexec hb dJ2_clear_28 rfl (lv_at hl 1 rfl) ?_
      refine g_icmp_ge hexec hb 42 dJ2_clear_29 (by decide) (a := i) (b := xs.length) rfl rfl (by omega) (by omega) (fun c_29 => ?_) (fun c_29 => ?_)
      · skip
        exact absurd c_29 (by omega)
      · skip
        refine lv_aload_n hexec hb dJ2_clear_32 rfl (lv_at hl 2 rfl) ?_
        refine lv_iload_n hexec hb dJ2_clear_33 rfl (lv_at hl 0 rfl) ?_
        refine lv_null hexec hb dJ2_clear_34 ?_
        refine g_aastN X hG hS 3 rfl har rfl (by omega) (by omega) dJ2_clear_35 (fun H locs hG hS => ?_)
        obtain ⟨G_5, hG, hx, hu, h_new, h_hal⟩ : ∃ G1, gH K G1 H ∧ gF (fun t => t = τ) Gl G1 ∧ (∀ b, b ≠ ar → G1 b = Gl b) ∧ G1 ar = some (τ, rowC K cap (va_up g i none)) ∧ G1 al = some (τ, .inr (8, [.int (md + 1), .ref (ar), .int (0)])) := ⟨_, hG, gF.putA har rfl, fun b hb => gU_ne hb, gU_self, (gU_ne (Ne.symm (g_ne_k har hal))).trans hal⟩
        have hF := hF.trans (hx.mono (fun t h => h))
        have har := h_new
        have hal := h_hal
        clear h_new h_hal
        refine lv_iinc (v := nI (i + 1)) (lv' := [(3, .int (nI (i + 1))), (2, .int (nI (xs.length))), (1, .ref (ar)), (0, .ref (al))]) hexec hb dJ2_clear_36 hl (k := 0) rfl (n_add (a := i) (b := 1) rfl rfl) (by decide) rfl (fun ls hl => ?_)
        refine lv_goto (tgt := 27) hexec hb dJ2_clear_39 (by decide) ?_
        exact ih_27 (i + 1) G_5 _ H locs ls (by omega) hal har hF hG hS (lv_sub hl [0, 1, 2, 3] rfl)
  exact loop_27 (xs.length) 0 G_4 f _ _ ls (by omega) hal har hF hG hS (lv_sub hl [0, 1, 2, 3] rfl)
set_option maxHeartbeats 2000000 in
set_option maxRecDepth 100000 in
theorem met_J2_clearE (l : Launch) (K : gK) (G : gT) (τ al : Nat) (md : Int32) (hal : G al = some (τ, alO md (kE K) 0))  : gMet l K yJ2_clear cJ2_clear 4 (none) 0 0 0 0 [.ref (al)] G (fun w G1 => w = none ∧ isAL K G1 τ al [] ∧ gF (fun t => t = τ) G G1) := by
  refine gMet.of (by decide) (Nat.le_of_ble_eq_true rfl) (fun p e s m below meth c ls hx0 hb X hr hin hG hS hl => ?_)
  have hexec := hx0
  have X : gC K p s m _ meth c cJ2_clear 4 "java/util/ArrayList" := X
  have hl : lv_has ls 4 [(0, .ref (al))] := hl
  have hF : gF (fun t => t = τ) G G := gF.rf
  refine lv_aload_n hexec hb dJ2_clear_0 rfl (lv_at hl 0 rfl) ?_
  refine lv_dup hexec hb dJ2_clear_1 rfl ?_
  refine g_get X hG hal (ci := 8) rfl in_J2 0 (by decide) q103 (u_same (X.1.2.2.2.2 _ q104)) rfl dJ2_clear_2 ?_
  refine lv_iconst (v := 1) hexec hb dJ2_clear_5 (by decide) ?_
  refine lv_iadd hexec hb dJ2_clear_6 ?_
  refine g_put X hG hS hal (ci := 8) rfl in_J2 tyJ2 tyJ2_ok nmJ2 0 (by decide) q103 (u_same (X.1.2.2.2.2 _ q104)) rfl rfl rfl (fs1 := [.int (md + 1), .ref (kE K), .int (0)]) (Nat.le_of_ble_eq_true rfl) rfl dJ2_clear_7 (fun H locs hG hS => ?_)
  obtain ⟨G_2, hG, hx, hu, h_new⟩ : ∃ G1, gH K G1 H ∧ gF (fun t => t = τ) G G1 ∧ (∀ b, b ≠ al → G1 b = G b) ∧ G1 al = some (τ, .inr (8, [.int (md + 1), .ref (kE K), .int (0)])) := ⟨_, hG, gF.putO hal rfl, fun b hb => gU_ne hb, gU_self⟩
  have hF := hF.trans (hx.mono (fun t h => h))
  have hal := h_new
  clear h_new
  refine lv_aload_n hexec hb dJ2_clear_10 rfl (lv_at hl 0 rfl) ?_
  refine g_get X hG hal (ci := 8) rfl in_J2 1 (by decide) q100 (fun _ h => h) rfl dJ2_clear_11 ?_
  refine lv_astore_n (lv' := [(1, .ref (kE K)), (0, .ref (al))]) hexec hb dJ2_clear_14 rfl hl (by decide) rfl (fun ls hl => ?_)
  refine lv_aload_n hexec hb dJ2_clear_15 rfl (lv_at hl 1 rfl) ?_
  refine g_get X hG hal (ci := 8) rfl in_J2 2 (by decide) q101 (fun _ h => h) rfl dJ2_clear_16 ?_
  refine lv_istore_n (lv' := [(2, .int (0)), (1, .ref (kE K)), (0, .ref (al))]) hexec hb dJ2_clear_19 rfl hl (by decide) rfl (fun ls hl => ?_)
  refine lv_aload_n hexec hb dJ2_clear_20 rfl (lv_at hl 2 rfl) ?_
  refine lv_iconst (v := 0) hexec hb dJ2_clear_21 (by decide) ?_
  refine lv_dup_x1 hexec hb dJ2_clear_22 rfl rfl ?_
  refine g_put X hG hS hal (ci := 8) rfl in_J2 tyJ2 tyJ2_ok nmJ2 2 (by decide) q101 (fun _ h => h) rfl rfl rfl (fs1 := [.int (md + 1), .ref (kE K), .int (0)]) (Nat.le_of_ble_eq_true rfl) rfl dJ2_clear_23 (fun H locs hG hS => ?_)
  obtain ⟨G_4, hG, hx, hu, h_new⟩ : ∃ G1, gH K G1 H ∧ gF (fun t => t = τ) G_2 G1 ∧ (∀ b, b ≠ al → G1 b = G_2 b) ∧ G1 al = some (τ, .inr (8, [.int (md + 1), .ref (kE K), .int (0)])) := ⟨_, hG, gF.putO hal rfl, fun b hb => gU_ne hb, gU_self⟩
  have hF := hF.trans (hx.mono (fun t h => h))
  have hal := h_new
  clear h_new
  refine lv_istore_n (lv' := [(3, .int (0)), (2, .int (0)), (1, .ref (kE K)), (0, .ref (al))]) hexec hb dJ2_clear_26 rfl hl (by decide) rfl (fun ls hl => ?_)
  have loop_27 : ∀ (n_ i : Nat) (Gl : gT)  (H : Heap) (locs : List Loc) (ls : Array Slot), i + n_ = 0 → Gl al = some (τ, .inr (8, [.int (md + 1), .ref (kE K), .int (0)])) → gF (fun t => t = τ) G Gl → gH K Gl H → va_S (gA K) s.heap H locs → lv_has ls 4 [(3, .int (nI (i))), (2, .int (0)), (1, .ref (kE K)), (0, .ref (al))] → W p l e ({ frames := 0, cells := 0, slots := 0, locals := 0 } : Room) s m ([.ref (al)] : List Value).toArray below meth c H locs 0 0 (MQ below (gQ K (fun w G1 => w = none ∧ isAL K G1 τ al [] ∧ gF (fun t => t = τ) G G1)) ([.ref (al)] : List Value).toArray s 0 0 (gA K)) (F0 m 27 ls []) := by
    intro n_
    induction n_ with
    | zero =>
      intro i Gl  H locs ls hi_27 hal hF hG hS hl
      refine lv_iload_n hexec hb dJ2_clear_27 rfl (lv_at hl 0 rfl) ?_
      refine lv_iload_n hexec hb dJ2_clear_28 rfl (lv_at hl 1 rfl) ?_
      refine g_icmp_ge hexec hb 42 dJ2_clear_29 (by decide) (a := i) (b := 0) rfl rfl (by omega) (by decide) (fun c_29 => ?_) (fun c_29 => ?_)
      · skip
        exact g_vret X hr hG hS ⟨rfl, ⟨md + 1, kE K, hal, fun x hx => absurd hx (by simp), Or.inl ⟨rfl, rfl⟩⟩, hF⟩ (Nat.le_of_ble_eq_true rfl) (Nat.le_of_ble_eq_true rfl) dJ2_clear_42
      · skip
        exact absurd c_29 (by omega)
    | succ n_ ih_27 =>
      intro i Gl  H locs ls hi_27 hal hF hG hS hl
      refine lv_iload_n hexec hb dJ2_clear_27 rfl (lv_at hl 0 rfl) ?_
      refine lv_iload_n hexec hb dJ2_clear_28 rfl (lv_at hl 1 rfl) ?_
      refine g_icmp_ge hexec hb 42 dJ2_clear_29 (by decide) (a := i) (b := 0) rfl rfl (by omega) (by decide) (fun c_29 => ?_) (fun c_29 => ?_)
      · skip
        exact absurd c_29 (by omega)
      · skip
        omega
  exact loop_27 (0) 0 G_4  _ _ ls (by omega) hal hF hG hS (lv_sub hl [0, 1, 2, 3] rfl)
theorem met_J2_clear (l : Launch) (K : gK) (G : gT) (τ al : Nat) (xs : List Nat) (h : isAL K G τ al xs) : gMet l K yJ2_clear cJ2_clear 4 none 0 0 0 0 [.ref al] G (fun w G1 => w = none ∧ isAL K G1 τ al [] ∧ gF (fun t => t = τ) G G1) := by
  obtain ⟨md, ar, hal, hxs, h3⟩ := h
  rcases h3 with ⟨rfl, rfl⟩ | ⟨cap, f, har, h10, hle, hc, hf⟩
  · exact met_J2_clearE l K G τ al md hal
  · exact met_J2_clearA l K G τ al ar cap md f xs hal har h10 hle hc
theorem bx_ix {x : Int32} (h1 : ¬ x < -128) (h2 : ¬ 127 < x) : ∃ k, k < 256 ∧ x + 128 = nI k ∧ x = vb_c k := by
  have a1 := Int32.le_iff_toInt_le.mp (Int32.not_lt.mp h1)
  have a2 := Int32.le_iff_toInt_le.mp (Int32.not_lt.mp h2)
  have e1 : (-128 : Int32).toInt = -128 := rfl
  have e2 : (127 : Int32).toInt = 127 := rfl
  rw [e1] at a1
  rw [e2] at a2
  have e3 : (x + 128).toInt = x.toInt + 128 := by
    have e4 : (128 : Int32).toInt = 128 := rfl
    rw [Int32.toInt_add, e4, Int.bmod_eq_of_le (by omega) (by omega)]
  have h0 : ¬ x + 128 < 0 := by
    intro q
    have q2 := Int32.lt_iff_toInt_lt.mp q
    have e5 : (0 : Int32).toInt = 0 := rfl
    rw [e3, e5] at q2
    omega
  obtain ⟨j, hj, hjx⟩ := nI_of h0
  have hj2 : (j : Int) = x.toInt + 128 := by rw [← e3, hjx, nI_toInt hj]
  refine ⟨j, by omega, hjx, ?_⟩
  show x = nI j - 128
  rw [← hjx]
  apply Int32.toInt_inj.mp
  have e4 : (128 : Int32).toInt = 128 := rfl
  rw [Int32.toInt_sub, e3, e4, Int.bmod_eq_of_le (by omega) (by omega)]
  omega
theorem bx_ixL {x : Int64} (h1 : -128 ≤ x) (h2 : x ≤ 127) : ∃ k, k < 256 ∧ x.toInt32 + 128 = nI k ∧ x = lgC k := by
  have a1 := Int64.le_iff_toInt_le.mp h1
  have a2 := Int64.le_iff_toInt_le.mp h2
  have e1 : (-128 : Int64).toInt = -128 := rfl
  have e2 : (127 : Int64).toInt = 127 := rfl
  rw [e1] at a1
  rw [e2] at a2
  have e0 : x.toInt32.toInt = x.toInt := by
    rw [Int64.toInt_toInt32, Int.bmod_eq_of_le (by omega) (by omega)]
  have e3 : (x.toInt32 + 128).toInt = x.toInt + 128 := by
    have e4 : (128 : Int32).toInt = 128 := rfl
    rw [Int32.toInt_add, e4, e0, Int.bmod_eq_of_le (by omega) (by omega)]
  have h0 : ¬ x.toInt32 + 128 < 0 := by
    intro q
    have q2 := Int32.lt_iff_toInt_lt.mp q
    have e5 : (0 : Int32).toInt = 0 := rfl
    rw [e3, e5] at q2
    omega
  obtain ⟨j, hj, hjx⟩ := nI_of h0
  have hj2 : (j : Int) = x.toInt + 128 := by rw [← e3, hjx, nI_toInt hj]
  refine ⟨j, by omega, hjx, ?_⟩
  apply Int64.toInt_inj.mp
  have e4 : (128 : Int64).toInt = 128 := rfl
  have e6 : (Int64.ofNat j).toInt = (j : Int) := lg_ofNat_toInt (by omega)
  unfold lgC
  rw [Int64.toInt_sub, e6, e4, Int.bmod_eq_of_le (by omega) (by omega)]
  omega
/-- v is an Integer of value x -/
def isI (K : gK) (G : gT) (v : Nat) (x : Int32) : Prop := (∃ k, k < 256 ∧ v = kI K k ∧ x = vb_c k) ∨ G v = some (10000, .inr (12, [.int x]))
def isJ (K : gK) (G : gT) (v : Nat) (x : Int64) : Prop := (∃ k, k < 256 ∧ v = kL K k ∧ x = lgC k) ∨ G v = some (10000, .inr (13, [.long x]))
theorem isI.fr {K : gK} {G G1 : gT} {S : Nat → Prop} {v : Nat} {x : Int32} (h : isI K G v x) (hF : gF S G G1) (hS : ¬ S 10000) : isI K G1 v x := h.elim Or.inl (fun h => Or.inr (hF.1 _ _ _ h hS))
theorem isI.ext {K : gK} {G G1 : gT} {v : Nat} {x : Int32} (h : isI K G v x) (hF : gExt G G1) : isI K G1 v x := h.elim Or.inl (fun h => Or.inr (hF _ _ _ h))
theorem isI.fr1 {K : gK} {G G1 : gT} {u v : Nat} {x : Int32} (h : isI K G v x) (hF : gF (fun t => t = u) G G1) (hS : 10000 ≠ u) : isI K G1 v x := h.fr hF hS
theorem isJ.fr {K : gK} {G G1 : gT} {S : Nat → Prop} {v : Nat} {x : Int64} (h : isJ K G v x) (hF : gF S G G1) (hS : ¬ S 10000) : isJ K G1 v x := h.elim Or.inl (fun h => Or.inr (hF.1 _ _ _ h hS))
theorem isJ.ext {K : gK} {G G1 : gT} {v : Nat} {x : Int64} (h : isJ K G v x) (hF : gExt G G1) : isJ K G1 v x := h.elim Or.inl (fun h => Or.inr (hF _ _ _ h))
theorem isJ.fr1 {K : gK} {G G1 : gT} {u v : Nat} {x : Int64} (h : isJ K G v x) (hF : gF (fun t => t = u) G G1) (hS : 10000 ≠ u) : isJ K G1 v x := h.fr hF hS
theorem isI.obj {K : gK} {G : gT} {v : Nat} {x : Int32} (h : isI K G v x) : gObj K G "java/lang/Integer" v := by
  rcases h with ⟨k, hk, rfl, _⟩ | h
  · exact Or.inr (Or.inl ⟨rfl, k, hk, rfl⟩)
  · exact gObj.mk h (r := (RJ9, TJ9, 1)) rfl
theorem isJ.obj {K : gK} {G : gT} {v : Nat} {x : Int64} (h : isJ K G v x) : gObj K G "java/lang/Long" v := by
  rcases h with ⟨k, hk, rfl, _⟩ | h
  · exact Or.inr (Or.inr ⟨rfl, k, hk, rfl⟩)
  · exact gObj.mk h (r := (RJ22, TJ22, 1)) rfl
theorem isI.elt {K : gK} {G : gT} {v : Nat} {x : Int32} (h : isI K G v x) : gElt K G v := ⟨_, h.obj, by decide⟩
section BXR
variable {p : Program} {l : Launch} {e : Env} {R : Room} {s : State} {m : MethodId} {args : Array Value} {below : List Frame} {meth : Method} {c : Code} {H : Heap} {locs : List Loc} {cells slots : Nat} {Q : State → Prop}
variable {cc : ByteArray} {pc : Nat} {ls : Array Slot} {rest : List Value} {K : gK} {own : String} {nL : Nat} {G : gT}
theorem g_getI (X : gC K p s m args meth c cc nL own) (hG : gH K G H) (hS : va_S (gA K) s.heap H locs) {v : Nat} {x : Int32} (h : isI K G v x) {index : Nat} (hl : Cond.fieldLink own index "java/lang/Integer" "value" "I" ∈ lw_all) (hdg : decode cc pc = .ok (.getfield index, 3))
    (kk : W p l e R s m args below meth c H locs cells slots Q (F0 m (pc + 3) ls (.int x :: rest))) : W p l e R s m args below meth c H locs cells slots Q (F0 m pc ls (.ref v :: rest)) := by
  rcases h with ⟨k, hk, rfl, rfl⟩ | h
  · exact vk_getf X.1.1 X.1.2.1 (X.2.1.2.1.1.2 k hk) hS X.1.2.2.2.1 (X.1.2.2.2.2 _ hl) (fun _ h => h) hdg kk
  · exact g_get X hG h (ci := 12) rfl in_J9 0 (by decide) hl (fun _ h => h) rfl hdg kk
theorem g_getJ (X : gC K p s m args meth c cc nL own) (hG : gH K G H) (hS : va_S (gA K) s.heap H locs) {v : Nat} {x : Int64} (h : isJ K G v x) {index : Nat} (hl : Cond.fieldLink own index "java/lang/Long" "value" "J" ∈ lw_all) (hdg : decode cc pc = .ok (.getfield index, 3))
    (kk : W p l e R s m args below meth c H locs cells slots Q (F0 m (pc + 3) ls (.long x :: rest))) : W p l e R s m args below meth c H locs cells slots Q (F0 m pc ls (.ref v :: rest)) := by
  rcases h with ⟨k, hk, rfl, rfl⟩ | h
  · exact vk_getf X.1.1 X.1.2.1 (X.2.1.2.1.2.2.2.2.2.1 k hk) hS X.1.2.2.2.1 (X.1.2.2.2.2 _ hl) (fun _ h => h) hdg kk
  · exact g_get X hG h (ci := 13) rfl in_J22 0 (by decide) hl (fun _ h => h) rfl hdg kk
theorem g_tabI (X : gC K p s m args meth c cc nL own) (hS : va_S (gA K) s.heap H locs) {i : Int32} {k : Nat} (hi : i = nI k) (hk : k < 256) (hdg : decode cc pc = .ok (.aaload, 1))
    (kk : W p l e R s m args below meth c H locs cells slots Q (F0 m (pc + 1) ls (.ref (kI K k) :: rest))) : W p l e R s m args below meth c H locs cells slots Q (F0 m pc ls (.int i :: .ref (kIT K) :: rest)) :=
  vb_tq X.1.1 X.1.2.1 X.2.1.2.1.2.2.1 hS (g_vin hi hk (by omega)) (by rw [g_at hi (by omega)]) hdg kk
theorem g_tabJ (X : gC K p s m args meth c cc nL own) (hS : va_S (gA K) s.heap H locs) {i : Int32} {k : Nat} (hi : i = nI k) (hk : k < 256) (hdg : decode cc pc = .ok (.aaload, 1))
    (kk : W p l e R s m args below meth c H locs cells slots Q (F0 m (pc + 1) ls (.ref (kL K k) :: rest))) : W p l e R s m args below meth c H locs cells slots Q (F0 m pc ls (.int i :: .ref (kLT K) :: rest)) :=
  vb_tq X.1.1 X.1.2.1 X.2.1.2.1.2.2.2.2.2.2.2 hS (g_vin hi hk (by omega)) (by rw [g_at hi (by omega)]) hdg kk
end BXR
set_option maxHeartbeats 2000000 in
set_option maxRecDepth 100000 in
theorem met_J9_init (l : Launch) (K : gK) (G : gT) (t v : Nat) (x : Int32) (hv : G v = some (t, .inr (12, [.int 0])))  : gMet l K yJ9_init cJ9_init 2 (none) 2 76 0 0 [.ref (v), .int (x)] G (fun w G1 => w = none ∧ G1 v = some (t, .inr (12, [.int x])) ∧ ∀ b, b ≠ v → G1 b = G b) := by
  refine gMet.of (by decide) (Nat.le_of_ble_eq_true rfl) (fun p e s m below meth c ls hx0 hb X hr hin hG hS hl => ?_)
  have hexec := hx0
  have X : gC K p s m _ meth c cJ9_init 2 "java/lang/Integer" := X
  have hl : lv_has ls 2 [(0, .ref (v)), (1, .int (x))] := hl
  have hF : gF (fun _ => True) G G := gF.rf
  refine lv_aload_n hexec hb dJ9_init_0 rfl (lv_at hl 0 rfl) ?_
  refine g_callI X (met_J8_init l K G v) gp_J8_init rfl rfl q212 q213 q48 q214 hG hS hl ⟨Nat.le_of_ble_eq_true rfl, Nat.le_of_ble_eq_true rfl⟩ ⟨(Nat.le_of_ble_eq_true rfl), (Nat.le_of_ble_eq_true rfl)⟩ (rest := []) (Nat.le_of_ble_eq_true rfl) rfl dJ9_init_1 (fun w G_1 H locs hp hG hS => ?_)
  obtain ⟨rfl, hge⟩ := hp
  rw [hge] at hG
  clear hge
  refine W.eq (g2 := F0 m 4 ls []) rfl ?_
  refine lv_aload_n hexec hb dJ9_init_4 rfl (lv_at hl 0 rfl) ?_
  refine lv_iload_n hexec hb dJ9_init_5 rfl (lv_at hl 1 rfl) ?_
  refine g_putF X hG hS hin hv (ci := 12) rfl in_J9 tyJ9 tyJ9_ok nmJ9 0 (by decide) q216 (fun _ h => h) rfl rfl rfl rfl (fs1 := [.int (x)]) (Nat.le_of_ble_eq_true rfl) rfl dJ9_init_6 (fun H locs hG hS => ?_)
  obtain ⟨G_3, hG, hx, hu, h_new⟩ : ∃ G1, gH K G1 H ∧ gF (fun t => t = t) G G1 ∧ (∀ b, b ≠ v → G1 b = G b) ∧ G1 v = some (t, .inr (12, [.int (x)])) := ⟨_, hG, gF.putO hv rfl, fun b hb => gU_ne hb, gU_self⟩
  have hF := hF.trans (hx.mono (fun t h => trivial))
  have hv := h_new
  clear h_new
  exact g_vret X hr hG hS ⟨rfl, hv, hu⟩ (Nat.le_of_ble_eq_true rfl) (Nat.le_of_ble_eq_true rfl) dJ9_init_9
set_option maxHeartbeats 2000000 in
set_option maxRecDepth 100000 in
theorem met_J22_init (l : Launch) (K : gK) (G : gT) (t v : Nat) (x : Int64) (hv : G v = some (t, .inr (13, [.long 0])))  : gMet l K yJ22_init cJ22_init 3 (none) 2 76 0 0 [.ref (v), .long (x)] G (fun w G1 => w = none ∧ G1 v = some (t, .inr (13, [.long x])) ∧ ∀ b, b ≠ v → G1 b = G b) := by
  refine gMet.of (by decide) (Nat.le_of_ble_eq_true rfl) (fun p e s m below meth c ls hx0 hb X hr hin hG hS hl => ?_)
  have hexec := hx0
  have X : gC K p s m _ meth c cJ22_init 3 "java/lang/Long" := X
  have hl : lv_has ls 3 [(0, .ref (v)), (1, .long (x))] := hl
  have hF : gF (fun _ => True) G G := gF.rf
  refine lv_aload_n hexec hb dJ22_init_0 rfl (lv_at hl 0 rfl) ?_
  refine g_callI X (met_J8_init l K G v) gp_J8_init rfl rfl q644 q213 q48 q214 hG hS hl ⟨Nat.le_of_ble_eq_true rfl, Nat.le_of_ble_eq_true rfl⟩ ⟨(Nat.le_of_ble_eq_true rfl), (Nat.le_of_ble_eq_true rfl)⟩ (rest := []) (Nat.le_of_ble_eq_true rfl) rfl dJ22_init_1 (fun w G_1 H locs hp hG hS => ?_)
  obtain ⟨rfl, hge⟩ := hp
  rw [hge] at hG
  clear hge
  refine W.eq (g2 := F0 m 4 ls []) rfl ?_
  refine lv_aload_n hexec hb dJ22_init_4 rfl (lv_at hl 0 rfl) ?_
  refine lv_lload_n hexec hb dJ22_init_5 rfl (lv_at hl 1 rfl) ?_
  refine g_putF X hG hS hin hv (ci := 13) rfl in_J22 tyJ22 tyJ22_ok nmJ22 0 (by decide) q645 (fun _ h => h) rfl rfl rfl rfl (fs1 := [.long (x)]) (Nat.le_of_ble_eq_true rfl) rfl dJ22_init_6 (fun H locs hG hS => ?_)
  obtain ⟨G_3, hG, hx, hu, h_new⟩ : ∃ G1, gH K G1 H ∧ gF (fun t => t = t) G G1 ∧ (∀ b, b ≠ v → G1 b = G b) ∧ G1 v = some (t, .inr (13, [.long (x)])) := ⟨_, hG, gF.putO hv rfl, fun b hb => gU_ne hb, gU_self⟩
  have hF := hF.trans (hx.mono (fun t h => trivial))
  have hv := h_new
  clear h_new
  exact g_vret X hr hG hS ⟨rfl, hv, hu⟩ (Nat.le_of_ble_eq_true rfl) (Nat.le_of_ble_eq_true rfl) dJ22_init_9
set_option maxHeartbeats 2000000 in
set_option maxRecDepth 100000 in
theorem met_J9_valueOf (l : Launch) (K : gK) (G : gT) (x : Int32)  : gMet l K yJ9_valueOf cJ9_valueOf 1 (some (.object "java/lang/Integer")) 3 113 1 1 [.int (x)] G (fun w G1 => ∃ q, w = some (.ref q) ∧ gExt G G1 ∧ isI K G1 q x) := by
  refine gMet.of (by decide) (Nat.le_of_ble_eq_true rfl) (fun p e s m below meth c ls hx0 hb X hr hin hG hS hl => ?_)
  have hexec := hx0
  have X : gC K p s m _ meth c cJ9_valueOf 1 "java/lang/Integer" := X
  have hl : lv_has ls 1 [(0, .int (x))] := hl
  have hE : gExt G G := gExt.rf
  have hF : gF (fun _ => True) G G := gF.rf
  refine lv_iload_n hexec hb dJ9_valueOf_0 rfl (lv_at hl 0 rfl) ?_
  refine lv_bipush (v := (-128)) hexec hb dJ9_valueOf_1 (by decide) ?_
  refine lv_icmp_lt (tgt := 23) hexec hb dJ9_valueOf_3 (by decide) (fun c_3 => ?_) (fun c_3 => ?_)
  · skip
    refine g_new X hG hS (ci := 12) rfl in_J9 tyJ9 tyJ9_ok q207 q208 q49 (fs := [.int (0)]) (by intro j hj; match j, hj with | 0, _ => rfl) (Nat.le_of_ble_eq_true rfl) (Nat.le_of_ble_eq_true rfl) dJ9_valueOf_23 (10000) (fun n1 H hq hn1A hG hS => ?_)
    obtain ⟨G_1, hG, hx, hn1, hn1O⟩ : ∃ G1, gH K G1 H ∧ gExt G G1 ∧ G1 n1 = some (10000, .inr (12, [.int (0)])) ∧ G1 = gU G n1 (10000) (.inr (12, [.int (0)])) := ⟨_, hG, gExt.new hq, gU_self, rfl⟩
    have hF := hF.trans hx.gF
    have hE := hE.trans hx
    refine lv_dup hexec hb dJ9_valueOf_26 rfl ?_
    refine lv_iload_n hexec hb dJ9_valueOf_27 rfl (lv_at hl 0 rfl) ?_
    refine g_callI X (met_J9_init l K G_1 10000 n1 x hn1) gp_J9_init rfl rfl q209 q210 q49 q211 hG hS hl ⟨Nat.le_of_ble_eq_true rfl, Nat.le_of_ble_eq_true rfl⟩ ⟨(Nat.le_of_ble_eq_true rfl), (Nat.le_of_ble_eq_true rfl)⟩ (rest := [.ref (n1)]) (Nat.le_of_ble_eq_true rfl) rfl dJ9_valueOf_28 (fun w G_2 H locs hp hG hS => ?_)
    obtain ⟨rfl, h_new, hu⟩ := hp
    have hE := hE.put hq hu
    have hn1 := h_new
    refine W.eq (g2 := F0 m 31 ls [.ref (n1)]) rfl ?_
    exact g_aret X hr (Or.inl ⟨_, rfl⟩) hG hS (Or.inr ⟨_, rfl⟩) ⟨n1, rfl, hE, Or.inr hn1⟩ (Nat.le_of_ble_eq_true rfl) (Nat.le_of_ble_eq_true rfl) dJ9_valueOf_31
  · skip
    refine lv_iload_n hexec hb dJ9_valueOf_6 rfl (lv_at hl 0 rfl) ?_
    refine g_gets X hS X.2.1.2.1.2.2.2.1 q203 (fun _ h => h) dJ9_valueOf_7 ?_
    refine lv_icmp_gt (tgt := 23) hexec hb dJ9_valueOf_10 (by decide) (fun c_10 => ?_) (fun c_10 => ?_)
    · skip
      refine g_new X hG hS (ci := 12) rfl in_J9 tyJ9 tyJ9_ok q207 q208 q49 (fs := [.int (0)]) (by intro j hj; match j, hj with | 0, _ => rfl) (Nat.le_of_ble_eq_true rfl) (Nat.le_of_ble_eq_true rfl) dJ9_valueOf_23 (10000) (fun n2 H hq hn2A hG hS => ?_)
      obtain ⟨G_3, hG, hx, hn2, hn2O⟩ : ∃ G1, gH K G1 H ∧ gExt G G1 ∧ G1 n2 = some (10000, .inr (12, [.int (0)])) ∧ G1 = gU G n2 (10000) (.inr (12, [.int (0)])) := ⟨_, hG, gExt.new hq, gU_self, rfl⟩
      have hF := hF.trans hx.gF
      have hE := hE.trans hx
      refine lv_dup hexec hb dJ9_valueOf_26 rfl ?_
      refine lv_iload_n hexec hb dJ9_valueOf_27 rfl (lv_at hl 0 rfl) ?_
      refine g_callI X (met_J9_init l K G_3 10000 n2 x hn2) gp_J9_init rfl rfl q209 q210 q49 q211 hG hS hl ⟨Nat.le_of_ble_eq_true rfl, Nat.le_of_ble_eq_true rfl⟩ ⟨(Nat.le_of_ble_eq_true rfl), (Nat.le_of_ble_eq_true rfl)⟩ (rest := [.ref (n2)]) (Nat.le_of_ble_eq_true rfl) rfl dJ9_valueOf_28 (fun w G_4 H locs hp hG hS => ?_)
      obtain ⟨rfl, h_new, hu⟩ := hp
      have hE := hE.put hq hu
      have hn2 := h_new
      refine W.eq (g2 := F0 m 31 ls [.ref (n2)]) rfl ?_
      exact g_aret X hr (Or.inl ⟨_, rfl⟩) hG hS (Or.inr ⟨_, rfl⟩) ⟨n2, rfl, hE, Or.inr hn2⟩ (Nat.le_of_ble_eq_true rfl) (Nat.le_of_ble_eq_true rfl) dJ9_valueOf_31
    · skip
      refine g_gets X hS X.2.1.2.1.2.1 q205 (fun _ h => h) dJ9_valueOf_13 ?_
      refine lv_iload_n hexec hb dJ9_valueOf_16 rfl (lv_at hl 0 rfl) ?_
      refine lv_sipush (v := 128) hexec hb dJ9_valueOf_17 (by decide) ?_
      refine lv_iadd hexec hb dJ9_valueOf_20 ?_
      obtain ⟨k, hk, hk1, hk2⟩ := bx_ix c_3 c_10
      refine g_tabI X hS hk1 hk dJ9_valueOf_21 ?_
      exact g_aret X hr (Or.inl ⟨_, rfl⟩) hG hS (Or.inr ⟨_, rfl⟩) ⟨kI K k, rfl, gExt.rf, Or.inl ⟨k, hk, rfl, hk2⟩⟩ (Nat.le_of_ble_eq_true rfl) (Nat.le_of_ble_eq_true rfl) dJ9_valueOf_22
set_option maxHeartbeats 2000000 in
set_option maxRecDepth 100000 in
theorem met_J22_valueOf (l : Launch) (K : gK) (G : gT) (x : Int64)  : gMet l K yJ22_valueOf cJ22_valueOf 3 (some (.object "java/lang/Long")) 3 114 1 1 [.long (x)] G (fun w G1 => ∃ q, w = some (.ref q) ∧ gExt G G1 ∧ isJ K G1 q x) := by
  refine gMet.of (by decide) (Nat.le_of_ble_eq_true rfl) (fun p e s m below meth c ls hx0 hb X hr hin hG hS hl => ?_)
  have hexec := hx0
  have X : gC K p s m _ meth c cJ22_valueOf 3 "java/lang/Long" := X
  have hl : lv_has ls 3 [(0, .long (x))] := hl
  have hE : gExt G G := gExt.rf
  have hF : gF (fun _ => True) G G := gF.rf
  refine lv_sipush (v := 128) hexec hb dJ22_valueOf_0 (by decide) ?_
  refine lv_istore_n (lv' := [(2, .int (128)), (0, .long (x))]) hexec hb dJ22_valueOf_3 rfl hl (by decide) rfl (fun ls hl => ?_)
  refine lv_lload_n hexec hb dJ22_valueOf_4 rfl (lv_at hl 1 rfl) ?_
  refine lv_ldc2 (v := (-128)) hexec hb X.1.2.2.2.1 (X.1.2.2.2.2 _ q635) dJ22_valueOf_5 ?_
  refine g_lif_lt hexec hb 31 dJ22_valueOf_8 dJ22_valueOf_9 (by decide) (fun c_8 => ?_) (fun c_8 => ?_)
  · skip
    refine g_new X hG hS (ci := 13) rfl in_J22 tyJ22 tyJ22_ok q639 q640 q67 (fs := [.long (0)]) (by intro j hj; match j, hj with | 0, _ => rfl) (Nat.le_of_ble_eq_true rfl) (Nat.le_of_ble_eq_true rfl) dJ22_valueOf_31 (10000) (fun n1 H hq hn1A hG hS => ?_)
    obtain ⟨G_1, hG, hx, hn1, hn1O⟩ : ∃ G1, gH K G1 H ∧ gExt G G1 ∧ G1 n1 = some (10000, .inr (13, [.long (0)])) ∧ G1 = gU G n1 (10000) (.inr (13, [.long (0)])) := ⟨_, hG, gExt.new hq, gU_self, rfl⟩
    have hF := hF.trans hx.gF
    have hE := hE.trans hx
    refine lv_dup hexec hb dJ22_valueOf_34 rfl ?_
    refine lv_lload_n hexec hb dJ22_valueOf_35 rfl (lv_at hl 1 rfl) ?_
    refine g_callI X (met_J22_init l K G_1 10000 n1 x hn1) gp_J22_init rfl rfl q641 q642 q67 q643 hG hS hl ⟨Nat.le_of_ble_eq_true rfl, Nat.le_of_ble_eq_true rfl⟩ ⟨(Nat.le_of_ble_eq_true rfl), (Nat.le_of_ble_eq_true rfl)⟩ (rest := [.ref (n1)]) (Nat.le_of_ble_eq_true rfl) rfl dJ22_valueOf_36 (fun w G_2 H locs hp hG hS => ?_)
    obtain ⟨rfl, h_new, hu⟩ := hp
    have hE := hE.put hq hu
    have hn1 := h_new
    refine W.eq (g2 := F0 m 39 ls [.ref (n1)]) rfl ?_
    exact g_aret X hr (Or.inl ⟨_, rfl⟩) hG hS (Or.inr ⟨_, rfl⟩) ⟨n1, rfl, hE, Or.inr hn1⟩ (Nat.le_of_ble_eq_true rfl) (Nat.le_of_ble_eq_true rfl) dJ22_valueOf_39
  · skip
    refine lv_lload_n hexec hb dJ22_valueOf_12 rfl (lv_at hl 1 rfl) ?_
    refine lv_ldc2 (v := 127) hexec hb X.1.2.2.2.1 (X.1.2.2.2.2 _ q636) dJ22_valueOf_13 ?_
    refine g_lif_gt hexec hb 31 dJ22_valueOf_16 dJ22_valueOf_17 (by decide) (fun c_16 => ?_) (fun c_16 => ?_)
    · skip
      refine g_new X hG hS (ci := 13) rfl in_J22 tyJ22 tyJ22_ok q639 q640 q67 (fs := [.long (0)]) (by intro j hj; match j, hj with | 0, _ => rfl) (Nat.le_of_ble_eq_true rfl) (Nat.le_of_ble_eq_true rfl) dJ22_valueOf_31 (10000) (fun n2 H hq hn2A hG hS => ?_)
      obtain ⟨G_3, hG, hx, hn2, hn2O⟩ : ∃ G1, gH K G1 H ∧ gExt G G1 ∧ G1 n2 = some (10000, .inr (13, [.long (0)])) ∧ G1 = gU G n2 (10000) (.inr (13, [.long (0)])) := ⟨_, hG, gExt.new hq, gU_self, rfl⟩
      have hF := hF.trans hx.gF
      have hE := hE.trans hx
      refine lv_dup hexec hb dJ22_valueOf_34 rfl ?_
      refine lv_lload_n hexec hb dJ22_valueOf_35 rfl (lv_at hl 1 rfl) ?_
      refine g_callI X (met_J22_init l K G_3 10000 n2 x hn2) gp_J22_init rfl rfl q641 q642 q67 q643 hG hS hl ⟨Nat.le_of_ble_eq_true rfl, Nat.le_of_ble_eq_true rfl⟩ ⟨(Nat.le_of_ble_eq_true rfl), (Nat.le_of_ble_eq_true rfl)⟩ (rest := [.ref (n2)]) (Nat.le_of_ble_eq_true rfl) rfl dJ22_valueOf_36 (fun w G_4 H locs hp hG hS => ?_)
      obtain ⟨rfl, h_new, hu⟩ := hp
      have hE := hE.put hq hu
      have hn2 := h_new
      refine W.eq (g2 := F0 m 39 ls [.ref (n2)]) rfl ?_
      exact g_aret X hr (Or.inl ⟨_, rfl⟩) hG hS (Or.inr ⟨_, rfl⟩) ⟨n2, rfl, hE, Or.inr hn2⟩ (Nat.le_of_ble_eq_true rfl) (Nat.le_of_ble_eq_true rfl) dJ22_valueOf_39
    · skip
      refine g_gets X hS X.2.1.2.1.2.2.2.2.2.2.1 q637 (fun _ h => h) dJ22_valueOf_20 ?_
      refine lv_lload_n hexec hb dJ22_valueOf_23 rfl (lv_at hl 1 rfl) ?_
      refine lv_l2i hexec hb dJ22_valueOf_24 rfl ?_
      refine lv_sipush (v := 128) hexec hb dJ22_valueOf_25 (by decide) ?_
      refine lv_iadd hexec hb dJ22_valueOf_28 ?_
      obtain ⟨k, hk, hk1, hk2⟩ := bx_ixL (Int64.not_lt.mp c_8) (Int64.not_lt.mp c_16)
      refine g_tabJ X hS hk1 hk dJ22_valueOf_29 ?_
      exact g_aret X hr (Or.inl ⟨_, rfl⟩) hG hS (Or.inr ⟨_, rfl⟩) ⟨kL K k, rfl, gExt.rf, Or.inl ⟨k, hk, rfl, hk2⟩⟩ (Nat.le_of_ble_eq_true rfl) (Nat.le_of_ble_eq_true rfl) dJ22_valueOf_30
set_option maxHeartbeats 2000000 in
set_option maxRecDepth 100000 in
theorem met_J9_intValue (l : Launch) (K : gK) (G : gT) (v : Nat) (x : Int32) (hv : isI K G v x)  : gMet l K yJ9_intValue cJ9_intValue 1 (some .int) 0 0 0 0 [.ref (v)] G (fun w G1 => w = some (.int x) ∧ G1 = G) := by
  refine gMet.of (by decide) (Nat.le_of_ble_eq_true rfl) (fun p e s m below meth c ls hx0 hb X hr hin hG hS hl => ?_)
  have hexec := hx0
  have X : gC K p s m _ meth c cJ9_intValue 1 "java/lang/Integer" := X
  have hl : lv_has ls 1 [(0, .ref (v))] := hl
  have hF : gF (fun _ => True) G G := gF.rf
  refine lv_aload_n hexec hb dJ9_intValue_0 rfl (lv_at hl 0 rfl) ?_
  refine g_getI X hG hS hv q216 dJ9_intValue_1 ?_
  exact g_iret X hr hG hS ⟨rfl, rfl⟩ (Nat.le_of_ble_eq_true rfl) (Nat.le_of_ble_eq_true rfl) dJ9_intValue_4
set_option maxHeartbeats 2000000 in
set_option maxRecDepth 100000 in
theorem met_J22_longValue (l : Launch) (K : gK) (G : gT) (v : Nat) (x : Int64) (hv : isJ K G v x)  : gMet l K yJ22_longValue cJ22_longValue 1 (some .long) 0 0 0 0 [.ref (v)] G (fun w G1 => w = some (.long x) ∧ G1 = G) := by
  refine gMet.of (by decide) (Nat.le_of_ble_eq_true rfl) (fun p e s m below meth c ls hx0 hb X hr hin hG hS hl => ?_)
  have hexec := hx0
  have X : gC K p s m _ meth c cJ22_longValue 1 "java/lang/Long" := X
  have hl : lv_has ls 1 [(0, .ref (v))] := hl
  have hF : gF (fun _ => True) G G := gF.rf
  refine lv_aload_n hexec hb dJ22_longValue_0 rfl (lv_at hl 0 rfl) ?_
  refine g_getJ X hG hS hv q645 dJ22_longValue_1 ?_
  exact g_lret X hr hG hS ⟨rfl, rfl⟩ (Nat.le_of_ble_eq_true rfl) (Nat.le_of_ble_eq_true rfl) dJ22_longValue_4
