/-! hash maps: resize, put, get (printed by gen/jdk6.py) -/
set_option maxRecDepth 100000
set_option maxHeartbeats 2000000 in
set_option maxRecDepth 100000 in
theorem met_J21_resize0 (l : Launch) (K : gK) (G : gT) (τ hm : Nat) (md : Int32) (hh : G hm = some (τ, hmO none 0 md 0))  : gMet l K yJ21_resize cJ21_resize 14 (some (.array (.object "java/util/HashMap$Node"))) 0 0 1 16 [.ref (hm)] G (fun w G1 => ∃ q, w = some (.ref q) ∧ G1 hm = some (τ, hmO (some q) 0 md 12) ∧ G1 q = some (τ, tbC K 16 (fun _ => none)) ∧ gF (fun t => t = τ) G G1) := by
  refine gMet.of (by decide) (Nat.le_of_ble_eq_true rfl) (fun p e s m below meth c ls hx0 hb X hr hin hG hS hl => ?_)
  have hexec := hx0
  have X : gC K p s m _ meth c cJ21_resize 14 "java/util/HashMap" := X
  have hl : lv_has ls 14 [(0, .ref (hm))] := hl
  have hF : gF (fun t => t = τ) G G := gF.rf
  refine lv_aload_n hexec hb dJ21_resize_0 rfl (lv_at hl 0 rfl) ?_
  refine g_get X hG hh (ci := 9) rfl in_J21 2 (by decide) q519 (fun _ h => h) rfl dJ21_resize_1 ?_
  refine lv_astore_nN (lv' := [(1, .null), (0, .ref (hm))]) hexec hb dJ21_resize_4 rfl hl (by decide) rfl (fun ls hl => ?_)
  refine lv_aload_nN hexec hb dJ21_resize_5 rfl (lv_at hl 0 rfl) ?_
  refine lv_ifnonnullN hexec hb dJ21_resize_6 ?_
  refine lv_iconst (v := 0) hexec hb dJ21_resize_9 (by decide) ?_
  refine lv_goto (tgt := 15) hexec hb dJ21_resize_10 (by decide) ?_
  refine lv_istore_n (lv' := [(2, .int (0)), (1, .null), (0, .ref (hm))]) hexec hb dJ21_resize_15 rfl hl (by decide) rfl (fun ls hl => ?_)
  refine lv_aload_n hexec hb dJ21_resize_16 rfl (lv_at hl 2 rfl) ?_
  refine g_get X hG hh (ci := 9) rfl in_J21 6 (by decide) q522 (fun _ h => h) rfl dJ21_resize_17 ?_
  refine lv_istore_n (lv' := [(3, .int (0)), (2, .int (0)), (1, .null), (0, .ref (hm))]) hexec hb dJ21_resize_20 rfl hl (by decide) rfl (fun ls hl => ?_)
  refine lv_iconst (v := 0) hexec hb dJ21_resize_21 (by decide) ?_
  refine lv_istore (lv' := [(5, .int (0)), (3, .int (0)), (2, .int (0)), (1, .null), (0, .ref (hm))]) hexec hb dJ21_resize_22 hl (by decide) rfl (fun ls hl => ?_)
  refine lv_iload_n hexec hb dJ21_resize_24 rfl (lv_at hl 2 rfl) ?_
  refine g_ifn_le hexec hb 67 dJ21_resize_25 (by decide) (a := 0) rfl (by decide) (fun c_25 => ?_) (fun c_25 => ?_)
  · skip
    refine lv_iload_n hexec hb dJ21_resize_67 rfl (lv_at hl 1 rfl) ?_
    refine g_ifn_le hexec hb 77 dJ21_resize_68 (by decide) (a := 0) rfl (by decide) (fun c_68 => ?_) (fun c_68 => ?_)
    · skip
      refine lv_bipush (v := 16) hexec hb dJ21_resize_77 (by decide) ?_
      refine lv_istore (lv' := [(4, .int (16)), (5, .int (0)), (3, .int (0)), (2, .int (0)), (1, .null), (0, .ref (hm))]) hexec hb dJ21_resize_79 hl (by decide) rfl (fun ls hl => ?_)
      refine lv_bipush (v := 12) hexec hb dJ21_resize_81 (by decide) ?_
      refine lv_istore (lv' := [(5, .int (12)), (4, .int (16)), (3, .int (0)), (2, .int (0)), (1, .null), (0, .ref (hm))]) hexec hb dJ21_resize_83 hl (by decide) rfl (fun ls hl => ?_)
      refine lv_iload hexec hb dJ21_resize_85 (lv_at hl 0 rfl) ?_
      refine g_ifn_ne hexec hb 125 dJ21_resize_87 (by decide) (a := 12) rfl (by decide) (fun c_87 => ?_) (fun c_87 => ?_)
      · skip
        refine lv_aload_n hexec hb dJ21_resize_125 rfl (lv_at hl 5 rfl) ?_
        refine lv_iload hexec hb dJ21_resize_126 (lv_at hl 0 rfl) ?_
        refine g_put X hG hS hh (ci := 9) rfl in_J21 tyJ21 tyJ21_ok nmJ21 6 (by decide) q522 (fun _ h => h) rfl rfl rfl (fs1 := [.null, .null, .null, .null, .int (0), .int (md), .int (12), .float (1061158912)]) (Nat.le_of_ble_eq_true rfl) rfl dJ21_resize_128 (fun H locs hG hS => ?_)
        obtain ⟨G_2, hG, hx, hu, h_new⟩ : ∃ G1, gH K G1 H ∧ gF (fun t => t = τ) G G1 ∧ (∀ b, b ≠ hm → G1 b = G b) ∧ G1 hm = some (τ, .inr (9, [.null, .null, .null, .null, .int (0), .int (md), .int (12), .float (1061158912)])) := ⟨_, hG, gF.putO hh rfl, fun b hb => gU_ne hb, gU_self⟩
        have hF := hF.trans (hx.mono (fun t h => h))
        have hh := h_new
        clear h_new
        refine lv_iload hexec hb dJ21_resize_131 (lv_at hl 1 rfl) ?_
        refine g_newq X hG hS 4 rfl q697 X.2.1.2.2.2.1.2.2.2.2.2.2.2.1 (N := 16) rfl (by omega) (τ) (Nat.le_of_ble_eq_true rfl) (Nat.le_of_ble_eq_true rfl) dJ21_resize_133 (fun n1 H hq hn1A hG hS => ?_)
        have ne_hh_n1 := g_ne_n hh hq
        obtain ⟨G_3, hG, hx, hn1, hn1O⟩ : ∃ G1, gH K G1 H ∧ gExt G_2 G1 ∧ G1 n1 = some (τ, .inl (kA K 4, 16, .inr (.inr (.inr (.inr (fun _ => none)))))) ∧ G1 = gU G_2 n1 (τ) (.inl (kA K 4, 16, .inr (.inr (.inr (.inr (fun _ => none)))))) := ⟨_, hG, gExt.new hq, gU_self, rfl⟩
        have hF := hF.trans hx.gF
        have hh := hx _ _ _ hh
        refine lv_astore (lv' := [(6, .ref (n1)), (5, .int (12)), (4, .int (16)), (3, .int (0)), (2, .int (0)), (1, .null), (0, .ref (hm))]) hexec hb dJ21_resize_136 hl (by decide) rfl (fun ls hl => ?_)
        refine lv_aload_n hexec hb dJ21_resize_138 rfl (lv_at hl 6 rfl) ?_
        refine lv_aload hexec hb dJ21_resize_139 (lv_at hl 0 rfl) ?_
        refine g_put X hG hS hh (ci := 9) rfl in_J21 tyJ21 tyJ21_ok nmJ21 2 (by decide) q519 (fun _ h => h) rfl rfl rfl (fs1 := [.null, .null, .ref (n1), .null, .int (0), .int (md), .int (12), .float (1061158912)]) (Nat.le_of_ble_eq_true rfl) rfl dJ21_resize_141 (fun H locs hG hS => ?_)
        obtain ⟨G_5, hG, hx, hu, h_new, h_hn1⟩ : ∃ G1, gH K G1 H ∧ gF (fun t => t = τ) G_3 G1 ∧ (∀ b, b ≠ hm → G1 b = G_3 b) ∧ G1 hm = some (τ, .inr (9, [.null, .null, .ref (n1), .null, .int (0), .int (md), .int (12), .float (1061158912)])) ∧ G1 n1 = some (τ, .inl (kA K 4, 16, .inr (.inr (.inr (.inr (fun _ => none)))))) := ⟨_, hG, gF.putO hh rfl, fun b hb => gU_ne hb, gU_self, (gU_ne (g_ne_k hn1 hh)).trans hn1⟩
        have hF := hF.trans (hx.mono (fun t h => h))
        have hh := h_new
        have hn1 := h_hn1
        clear h_new h_hn1
        refine lv_aload_nN hexec hb dJ21_resize_144 rfl (lv_at hl 5 rfl) ?_
        refine lv_ifnullN (tgt := 353) hexec hb dJ21_resize_145 (by decide) ?_
        refine lv_aload hexec hb dJ21_resize_353 (lv_at hl 0 rfl) ?_
        exact g_aret X hr (Or.inr ⟨_, rfl⟩) hG hS (Or.inr ⟨_, rfl⟩) ⟨n1, rfl, hh, hn1, hF⟩ (Nat.le_of_ble_eq_true rfl) (Nat.le_of_ble_eq_true rfl) dJ21_resize_355
      · exact absurd c_87 (by decide)
    · skip
      exact absurd c_68 (by decide)
  · skip
    exact absurd c_25 (by decide)
