/-! the component: rows of lists, Track.end (printed by gen/comp5.py) -/
set_option maxRecDepth 100000
theorem gp_J2_size : gPar yJ2_size 0 := ⟨⟨by decide, by decide⟩, by decide +kernel⟩
set_option maxHeartbeats 2000000 in
set_option maxRecDepth 100000 in
theorem met_X8_end (l : Launch) (K : gK) (G : gT) (τ τ2 q be a1 a2 a3 st hb mi : Nat) (al pr : Bool) (xs : List Nat) (hq0 : G q = some (τ, .inr (7, [.int (nI be), .ref a1, .ref a2, .ref a3, .ref st, .int (gb al), .int (gb pr), .int (nI hb), .int (nI mi)]))) (hb2 : isAL K G τ2 a2 xs) (hx0 : 1 ≤ be + xs.length)  : gMet l K yX8_end cX8_end 1 (some .int) 1 36 0 0 [.ref (q)] G (fun w G1 => w = some (.int (nI (be + xs.length - 1))) ∧ G1 = G) := by
  refine gMet.of (by decide) (Nat.le_of_ble_eq_true rfl) (fun p e s m below meth c ls hx0 hb X hr hin hG hS hl => ?_)
  have hexec := hx0
  have X : gC K p s m _ meth c cX8_end 1 "KalmanQuay$Track" := X
  have hl : lv_has ls 1 [(0, .ref (q))] := hl
  have hF : gF (fun _ => True) G G := gF.rf
  refine lv_aload_n hexec hb dX8_end_0 rfl (lv_at hl 0 rfl) ?_
  refine g_get X hG hq0 (ci := 7) rfl in_X8 0 (by decide) q1025 (fun _ h => h) rfl dX8_end_1 ?_
  refine lv_aload_n hexec hb dX8_end_4 rfl (lv_at hl 0 rfl) ?_
  refine g_get X hG hq0 (ci := 7) rfl in_X8 2 (by decide) q1029 (fun _ h => h) rfl dX8_end_5 ?_
  refine g_callV X (met_J2_size l K G (τ2) a2 (xs) hb2) gp_J2_size rfl q1164 q162 (C := "java/util/ArrayList") q163 q41 q164 hG hS (hb2.recv X hG) hl ⟨Nat.le_of_ble_eq_true rfl, Nat.le_of_ble_eq_true rfl⟩ ⟨(Nat.le_of_ble_eq_true rfl), (Nat.le_of_ble_eq_true rfl)⟩ (rest := [.int (nI (be))]) (Nat.le_of_ble_eq_true rfl) rfl dX8_end_8 (fun w G_1 H locs hp hG hS => ?_)
  obtain ⟨rfl, hge⟩ := hp
  rw [hge] at hG
  clear hge
  refine W.eq (g2 := F0 m 11 ls [.int (nI ((xs).length)), .int (nI (be))]) rfl ?_
  refine lv_iadd hexec hb dX8_end_11 ?_
  refine g_topN (n_add (a := be) (b := (xs).length) rfl rfl) ?_
  refine lv_iconst (v := 1) hexec hb dX8_end_12 (by decide) ?_
  refine lv_isub hexec hb dX8_end_13 ?_
  refine g_topN (n_sub (a := be + ((xs).length)) (b := 1) rfl rfl (by omega)) ?_
  exact g_iret X hr hG hS ⟨rfl, rfl⟩ (Nat.le_of_ble_eq_true rfl) (Nat.le_of_ble_eq_true rfl) dX8_end_14
