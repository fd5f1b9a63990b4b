/-! hash maps: resize, put, get (printed by gen/jdk6.py) -/
set_option maxRecDepth 100000
theorem gp_J21_getNode : gPar yJ21_getNode 1 := ⟨⟨by decide, by decide⟩, by decide +kernel⟩
theorem gp_J21_hash : gPar yJ21_hash 1 := ⟨⟨by decide, by decide⟩, by decide +kernel⟩
set_option maxHeartbeats 2000000 in
set_option maxRecDepth 100000 in
theorem met_J21_resize0 (l : Launch) (K : gK) (G : gT) (τ hm : Nat) (md : Int32) (hh : G hm = some (τ, hmO none 0 md 0))  : gMet l K yJ21_resize cJ21_resize 14 (some (.array (.object "java/util/HashMap$Node"))) 0 0 1 16 [.ref (hm)] G (fun w G1 => ∃ q, w = some (.ref q) ∧ G1 hm = some (τ, hmO (some q) 0 md 12) ∧ G1 q = some (τ, tbC K 16 (fun _ => none)) ∧ gF (fun t => t = τ) G G1) := by
  refine gMet.of (by decide) (Nat.le_of_ble_eq_true rfl) (fun p e s m below meth c ls hx0 hb X hr hin hG hS hl => ?_)
  have hexec := hx0
  have X : gC K p s m _ meth c cJ21_resize 14 "java/util/HashMap" := X
  have hl : lv_has ls 14 [(0, .ref (hm))] := hl
  have hF : gF (fun t => t = τ) G G := gF.rf
  refine lv_aload_n hexec hb dJ21_resize_0 rfl (lv_at hl 0 rfl) ?_
  refine g_get X hG hh (ci := 9) rfl in_J21 2 (by decide) q519 (fun _ h => h) rfl dJ21_resize_1 ?_
  refine lv_astore_nN (lv' := [(1, .null), (0, .ref (hm))]) hexec hb dJ21_resize_4 rfl hl (by decide) rfl (fun ls hl => ?_)
  refine lv_aload_nN hexec hb dJ21_resize_5 rfl (lv_at hl 0 rfl) ?_
  refine lv_ifnonnullN hexec hb dJ21_resize_6 ?_
  refine lv_iconst (v := 0) hexec hb dJ21_resize_9 (by decide) ?_
  refine lv_goto (tgt := 15) hexec hb dJ21_resize_10 (by decide) ?_
  refine lv_istore_n (lv' := [(2, .int (0)), (1, .null), (0, .ref (hm))]) hexec hb dJ21_resize_15 rfl hl (by decide) rfl (fun ls hl => ?_)
  refine lv_aload_n hexec hb dJ21_resize_16 rfl (lv_at hl 2 rfl) ?_
  refine g_get X hG hh (ci := 9) rfl in_J21 6 (by decide) q522 (fun _ h => h) rfl dJ21_resize_17 ?_
  refine lv_istore_n (lv' := [(3, .int (0)), (2, .int (0)), (1, .null), (0, .ref (hm))]) hexec hb dJ21_resize_20 rfl hl (by decide) rfl (fun ls hl => ?_)
  refine lv_iconst (v := 0) hexec hb dJ21_resize_21 (by decide) ?_
  refine lv_istore (lv' := [(5, .int (0)), (3, .int (0)), (2, .int (0)), (1, .null), (0, .ref (hm))]) hexec hb dJ21_resize_22 hl (by decide) rfl (fun ls hl => ?_)
  refine lv_iload_n hexec hb dJ21_resize_24 rfl (lv_at hl 2 rfl) ?_
  refine g_ifn_le hexec hb 67 dJ21_resize_25 (by decide) (a := 0) rfl (by decide) (fun c_25 => ?_) (fun c_25 => ?_)
  · skip
    refine lv_iload_n hexec hb dJ21_resize_67 rfl (lv_at hl 1 rfl) ?_
    refine g_ifn_le hexec hb 77 dJ21_resize_68 (by decide) (a := 0) rfl (by decide) (fun c_68 => ?_) (fun c_68 => ?_)
    · skip
      refine lv_bipush (v := 16) hexec hb dJ21_resize_77 (by decide) ?_
      refine lv_istore (lv' := [(4, .int (16)), (5, .int (0)), (3, .int (0)), (2, .int (0)), (1, .null), (0, .ref (hm))]) hexec hb dJ21_resize_79 hl (by decide) rfl (fun ls hl => ?_)
      refine lv_bipush (v := 12) hexec hb dJ21_resize_81 (by decide) ?_
      refine lv_istore (lv' := [(5, .int (12)), (4, .int (16)), (3, .int (0)), (2, .int (0)), (1, .null), (0, .ref (hm))]) hexec hb dJ21_resize_83 hl (by decide) rfl (fun ls hl => ?_)
      refine lv_iload hexec hb dJ21_resize_85 (lv_at hl 0 rfl) ?_
      refine g_ifn_ne hexec hb 125 dJ21_resize_87 (by decide) (a := 12) rfl (by decide) (fun c_87 => ?_) (fun c_87 => ?_)
      · skip
        refine lv_aload_n hexec hb dJ21_resize_125 rfl (lv_at hl 5 rfl) ?_
        refine lv_iload hexec hb dJ21_resize_126 (lv_at hl 0 rfl) ?_
        refine g_put X hG hS hh (ci := 9) rfl in_J21 tyJ21 tyJ21_ok nmJ21 6 (by decide) q522 (fun _ h => h) rfl rfl rfl (fs1 := [.null, .null, .null, .null, .int (0), .int (md), .int (12), .float (1061158912)]) (Nat.le_of_ble_eq_true rfl) rfl dJ21_resize_128 (fun H locs hG hS => ?_)
        obtain ⟨G_2, hG, hx, hu, h_new⟩ : ∃ G1, gH K G1 H ∧ gF (fun t => t = τ) G G1 ∧ (∀ b, b ≠ hm → G1 b = G b) ∧ G1 hm = some (τ, .inr (9, [.null, .null, .null, .null, .int (0), .int (md), .int (12), .float (1061158912)])) := ⟨_, hG, gF.putO hh rfl, fun b hb => gU_ne hb, gU_self⟩
        have hF := hF.trans (hx.mono (fun t h => h))
        have hh := h_new
        clear h_new
        refine lv_iload hexec hb dJ21_resize_131 (lv_at hl 1 rfl) ?_
        refine g_newq X hG hS 4 rfl q697 X.2.1.2.2.2.1.2.2.2.2.2.2.2.1 (N := 16) rfl (by omega) (τ) (Nat.le_of_ble_eq_true rfl) (Nat.le_of_ble_eq_true rfl) dJ21_resize_133 (fun n1 H hq hn1A hG hS => ?_)
        have ne_hh_n1 := g_ne_n hh hq
        obtain ⟨G_3, hG, hx, hn1, hn1O⟩ : ∃ G1, gH K G1 H ∧ gExt G_2 G1 ∧ G1 n1 = some (τ, .inl (kA K 4, 16, .inr (.inr (.inr (.inr (fun _ => none)))))) ∧ G1 = gU G_2 n1 (τ) (.inl (kA K 4, 16, .inr (.inr (.inr (.inr (fun _ => none)))))) := ⟨_, hG, gExt.new hq, gU_self, rfl⟩
        have hF := hF.trans hx.gF
        have hh := hx _ _ _ hh
        refine lv_astore (lv' := [(6, .ref (n1)), (5, .int (12)), (4, .int (16)), (3, .int (0)), (2, .int (0)), (1, .null), (0, .ref (hm))]) hexec hb dJ21_resize_136 hl (by decide) rfl (fun ls hl => ?_)
        refine lv_aload_n hexec hb dJ21_resize_138 rfl (lv_at hl 6 rfl) ?_
        refine lv_aload hexec hb dJ21_resize_139 (lv_at hl 0 rfl) ?_
        refine g_put X hG hS hh (ci := 9) rfl in_J21 tyJ21 tyJ21_ok nmJ21 2 (by decide) q519 (fun _ h => h) rfl rfl rfl (fs1 := [.null, .null, .ref (n1), .null, .int (0), .int (md), .int (12), .float (1061158912)]) (Nat.le_of_ble_eq_true rfl) rfl dJ21_resize_141 (fun H locs hG hS => ?_)
        obtain ⟨G_5, hG, hx, hu, h_new, h_hn1⟩ : ∃ G1, gH K G1 H ∧ gF (fun t => t = τ) G_3 G1 ∧ (∀ b, b ≠ hm → G1 b = G_3 b) ∧ G1 hm = some (τ, .inr (9, [.null, .null, .ref (n1), .null, .int (0), .int (md), .int (12), .float (1061158912)])) ∧ G1 n1 = some (τ, .inl (kA K 4, 16, .inr (.inr (.inr (.inr (fun _ => none)))))) := ⟨_, hG, gF.putO hh rfl, fun b hb => gU_ne hb, gU_self, (gU_ne (g_ne_k hn1 hh)).trans hn1⟩
        have hF := hF.trans (hx.mono (fun t h => h))
        have hh := h_new
        have hn1 := h_hn1
        clear h_new h_hn1
        refine lv_aload_nN hexec hb dJ21_resize_144 rfl (lv_at hl 5 rfl) ?_
        refine lv_ifnullN (tgt := 353) hexec hb dJ21_resize_145 (by decide) ?_
        refine lv_aload hexec hb dJ21_resize_353 (lv_at hl 0 rfl) ?_
        exact g_aret X hr (Or.inr ⟨_, rfl⟩) hG hS (Or.inr ⟨_, rfl⟩) ⟨n1, rfl, hh, hn1, hF⟩ (Nat.le_of_ble_eq_true rfl) (Nat.le_of_ble_eq_true rfl) dJ21_resize_355
      · exact absurd c_87 (by decide)
    · skip
      exact absurd c_68 (by decide)
  · skip
    exact absurd c_25 (by decide)
theorem n_mask {n th h : Nat} (hn : nth n th) (hh : h < 65536) : (nI n - 1) &&& nI h = nI (h % n) := by
  have key : ∀ k : Nat, k ≤ 6 → (nI (2 ^ k) - 1) &&& nI h = nI (h % 2 ^ k) := by
    intro k hk
    have e0 : nI (2 ^ k) - 1 = nI (2 ^ k - 1) := pk_sub (a := 2 ^ k) (b := 1) (Nat.one_le_two_pow)
    rw [e0]
    apply Int32.toBitVec_inj.mp
    apply BitVec.eq_of_toNat_eq
    have hp : 2 ^ k ≤ 64 := by
      have := Nat.pow_le_pow_right (n := 2) (by omega) hk
      simpa using this
    have hm : h % 2 ^ k < 2 ^ k := Nat.mod_lt _ (Nat.two_pow_pos k)
    rw [Int32.toBitVec_and, BitVec.toNat_and]
    have e1 : (nI (2 ^ k - 1)).toBitVec.toNat = 2 ^ k - 1 := by
      show (BitVec.ofNat 32 (2 ^ k - 1)).toNat = _
      rw [BitVec.toNat_ofNat, Nat.mod_eq_of_lt (by omega)]
    have e2 : (nI h).toBitVec.toNat = h := by
      show (BitVec.ofNat 32 h).toNat = _
      rw [BitVec.toNat_ofNat, Nat.mod_eq_of_lt (by omega)]
    have e3 : (nI (h % 2 ^ k)).toBitVec.toNat = h % 2 ^ k := by
      show (BitVec.ofNat 32 (h % 2 ^ k)).toNat = _
      rw [BitVec.toNat_ofNat, Nat.mod_eq_of_lt (by omega)]
    rw [e1, e2, e3, Nat.and_comm, Nat.and_two_pow_sub_one_eq_mod]
  rcases hn with ⟨rfl, _⟩ | ⟨rfl, _⟩ | ⟨rfl, _⟩
  · exact key 4 (by omega)
  · exact key 5 (by omega)
  · exact key 6 (by omega)
theorem chn.nil {G : gT} {τ : Nat} {l : List (Nat × hE)} (h : chn G τ l none) : l = [] := by
  cases l with
  | nil => rfl
  | cons x l => cases h.1
theorem chn.cons {G : gT} {τ y : Nat} {l : List (Nat × hE)} (h : chn G τ l (some y)) : ∃ d l1 nx, l = (y, d) :: l1 ∧ G y = some (τ, ndO d nx) ∧ chn G τ l1 nx := by
  cases l with
  | nil => cases h
  | cons x l =>
    obtain ⟨h1, nx, h2, h3⟩ := h
    obtain ⟨x1, d⟩ := x
    cases h1
    exact ⟨d, l, nx, rfl, h2, h3⟩
def fnd (h : Nat) (l : List (Nat × hE)) : Option (Option Nat) := (l.find? fun x => x.2.1 == h).map fun x => x.2.2.2
theorem fnd_hit {h y : Nat} {d : hE} {l : List (Nat × hE)} (e : d.1 = h) : fnd h ((y, d) :: l) = some d.2.2 := by
  unfold fnd
  rw [List.find?_cons_of_pos (by simpa using e)]
  rfl
theorem fnd_no {h y : Nat} {d : hE} {l : List (Nat × hE)} (e : ¬ d.1 = h) : fnd h ((y, d) :: l) = fnd h l := by
  unfold fnd
  rw [List.find?_cons_of_neg (by simpa using e)]
set_option maxHeartbeats 2000000 in
set_option maxRecDepth 100000 in
theorem met_J21_getNodeT (l : Launch) (K : gK) (G : gT) (τ hm sz n th tb ke h : Nat) (κ : Bool) (Dom : List Nat) (md : Int32) (f : Nat → Option Nat) (l0 : List (Nat × hE)) (Mh : Option (Option Nat)) (hh : G hm = some (τ, hmO (some tb) sz md th)) (htb : G tb = some (τ, tbC K n f)) (hn : nth n th) (hk : kOK K G κ ke h) (hch : chn G τ l0 (f (h % n))) (hbk : bkt K G κ Dom n (h % n) l0) (hM : Mh = fnd h l0)  : gMet l K yJ21_getNode cJ21_getNode 8 (some (.object "java/util/HashMap$Node")) 6 300 0 0 [.ref (hm), .ref (ke)] G (fun w G1 => G1 = G ∧ ((Mh = none ∧ w = some .null) ∨ ∃ a d nx, Mh = some d.2.2 ∧ d.1 = h ∧ w = some (.ref a) ∧ G a = some (τ, ndO d nx))) := by
  refine gMet.of (by decide) (Nat.le_of_ble_eq_true rfl) (fun p e s m below meth c ls hx0 hb X hr hin hG hS hl => ?_)
  have hexec := hx0
  have X : gC K p s m _ meth c cJ21_getNode 8 "java/util/HashMap" := X
  have hl : lv_has ls 8 [(0, .ref (hm)), (1, .ref (ke))] := hl
  have hlt : h % n < n := Nat.mod_lt _ (by unfold nth at hn; omega)
  have hlt2 : h % n < 2147483648 := by unfold nth at hn; omega
  have hk65 := hk.1
  have hF : gF (fun _ => True) G G := gF.rf
  refine lv_aload_n hexec hb dJ21_getNode_0 rfl (lv_at hl 0 rfl) ?_
  refine g_get X hG hh (ci := 9) rfl in_J21 2 (by decide) q519 (fun _ h => h) rfl dJ21_getNode_1 ?_
  refine lv_dup hexec hb dJ21_getNode_4 rfl ?_
  refine lv_astore_n (lv' := [(2, .ref (tb)), (0, .ref (hm)), (1, .ref (ke))]) hexec hb dJ21_getNode_5 rfl hl (by decide) rfl (fun ls hl => ?_)
  refine lv_ifnull hexec hb dJ21_getNode_6 ?_
  refine lv_aload_n hexec hb dJ21_getNode_9 rfl (lv_at hl 0 rfl) ?_
  refine g_alen X hG 4 rfl htb rfl dJ21_getNode_10 ?_
  refine lv_dup hexec hb dJ21_getNode_11 rfl ?_
  refine lv_istore (lv' := [(5, .int (nI (n))), (2, .ref (tb)), (0, .ref (hm)), (1, .ref (ke))]) hexec hb dJ21_getNode_12 hl (by decide) rfl (fun ls hl => ?_)
  refine g_ifn_le hexec hb 148 dJ21_getNode_14 (by decide) (a := n) rfl (by have := hn; unfold nth at this; omega) (fun c_14 => ?_) (fun c_14 => ?_)
  · skip
    exact absurd c_14 (by have := hn; unfold nth at this; omega)
  · skip
    refine lv_aload_n hexec hb dJ21_getNode_17 rfl (lv_at hl 1 rfl) ?_
    refine lv_iload hexec hb dJ21_getNode_18 (lv_at hl 0 rfl) ?_
    refine lv_iconst (v := 1) hexec hb dJ21_getNode_20 (by decide) ?_
    refine lv_isub hexec hb dJ21_getNode_21 ?_
    refine lv_aload_n hexec hb dJ21_getNode_22 rfl (lv_at hl 3 rfl) ?_
    refine g_callS X (met_J21_hash l K G κ ke h hk) gp_J21_hash rfl q653 q654 q64 q655 hG hS hl ⟨Nat.le_of_ble_eq_true rfl, Nat.le_of_ble_eq_true rfl⟩ ⟨(Nat.le_of_ble_eq_true rfl), (Nat.le_of_ble_eq_true rfl)⟩ (rest := [.int ((nI (n)) - 1), .ref (tb)]) (Nat.le_of_ble_eq_true rfl) rfl dJ21_getNode_23 (fun w G_1 H locs hp hG hS => ?_)
    obtain ⟨rfl, hge⟩ := hp
    rw [hge] at hG
    clear hge
    refine W.eq (g2 := F0 m 26 ls [.int (nI (h)), .int ((nI (n)) - 1), .ref (tb)]) rfl ?_
    refine lv_dup hexec hb dJ21_getNode_26 rfl ?_
    refine lv_istore (lv' := [(6, .int (nI (h))), (5, .int (nI (n))), (2, .ref (tb)), (0, .ref (hm)), (1, .ref (ke))]) hexec hb dJ21_getNode_27 hl (by decide) rfl (fun ls hl => ?_)
    refine lv_iand hexec hb dJ21_getNode_29 ?_
    refine g_topE (z := nI (h % n)) (n_mask hn hk.1) ?_
    cases hfb : f (h % n) with
    | none =>
      rw [hfb] at hch
      have hnil := hch.nil
      refine g_aaldN X hG 4 rfl rfl htb rfl hlt hlt2 hfb dJ21_getNode_30 ?_
      refine lv_dup hexec hb dJ21_getNode_31 rfl ?_
      refine lv_astore_nN (lv' := [(3, .null), (6, .int (nI (h))), (5, .int (nI (n))), (2, .ref (tb)), (0, .ref (hm)), (1, .ref (ke))]) hexec hb dJ21_getNode_32 rfl hl (by decide) rfl (fun ls hl => ?_)
      refine lv_ifnullN (tgt := 148) hexec hb dJ21_getNode_33 (by decide) ?_
      refine lv_null hexec hb dJ21_getNode_148 ?_
      exact g_aret X hr (Or.inl ⟨_, rfl⟩) hG hS (Or.inl rfl) ⟨rfl, Or.inl ⟨by rw [hM, hnil]; rfl, rfl⟩⟩ (Nat.le_of_ble_eq_true rfl) (Nat.le_of_ble_eq_true rfl) dJ21_getNode_149
    | some x =>
      rw [hfb] at hch
      obtain ⟨d, l1, nx, hl1, hx, hch1⟩ := hch.cons
      have hkd := (hbk.2 (x, d) (by rw [hl1]; exact List.mem_cons_self)).2.2
      have hd65 : d.1 < 65536 := hkd.1
      refine g_aald X hG 4 rfl rfl htb rfl hlt hlt2 hfb dJ21_getNode_30 ?_
      refine lv_dup hexec hb dJ21_getNode_31 rfl ?_
      refine lv_astore_n (lv' := [(3, .ref (x)), (6, .int (nI (h))), (5, .int (nI (n))), (2, .ref (tb)), (0, .ref (hm)), (1, .ref (ke))]) hexec hb dJ21_getNode_32 rfl hl (by decide) rfl (fun ls hl => ?_)
      refine lv_ifnull hexec hb dJ21_getNode_33 ?_
      refine lv_aload_n hexec hb dJ21_getNode_36 rfl (lv_at hl 0 rfl) ?_
      refine g_get X hG hx (ci := 11) rfl in_J23 0 (by decide) q721 (fun _ h => h) rfl dJ21_getNode_37 ?_
      refine lv_iload hexec hb dJ21_getNode_40 (lv_at hl 1 rfl) ?_
      refine g_icmp_ne hexec hb 71 dJ21_getNode_42 (by decide) (a := d.1) (b := h) rfl rfl (by have := hn; unfold nth at this; omega) (by have := hn; unfold nth at this; omega) (fun c_42 => ?_) (fun c_42 => ?_)
      · skip
        refine lv_aload_n hexec hb dJ21_getNode_71 rfl (lv_at hl 0 rfl) ?_
        refine g_get X hG hx (ci := 11) rfl in_J23 3 (by decide) q732 (fun _ h => h) rfl dJ21_getNode_72 ?_
        cases nx with
        | none =>
          have hM1 : Mh = fnd h l1 := by rw [hM, hl1, fnd_no c_42]
          rw [hch1.nil] at hM1
          refine lv_dup hexec hb dJ21_getNode_75 rfl ?_
          refine lv_astoreN (lv' := [(4, .null), (3, .ref (x)), (6, .int (nI (h))), (5, .int (nI (n))), (2, .ref (tb)), (0, .ref (hm)), (1, .ref (ke))]) hexec hb dJ21_getNode_76 hl (by decide) rfl (fun ls hl => ?_)
          refine lv_ifnullN (tgt := 148) hexec hb dJ21_getNode_78 (by decide) ?_
          refine lv_null hexec hb dJ21_getNode_148 ?_
          exact g_aret X hr (Or.inl ⟨_, rfl⟩) hG hS (Or.inl rfl) ⟨rfl, Or.inl ⟨hM1, rfl⟩⟩ (Nat.le_of_ble_eq_true rfl) (Nat.le_of_ble_eq_true rfl) dJ21_getNode_149
        | some y =>
          have hM1 : Mh = fnd h l1 := by rw [hM, hl1, fnd_no c_42]
          obtain ⟨d2, l2, nx2, hl2, hy, hch2⟩ := hch1.cons
          refine lv_dup hexec hb dJ21_getNode_75 rfl ?_
          refine lv_astore (lv' := [(4, .ref (y)), (3, .ref (x)), (6, .int (nI (h))), (5, .int (nI (n))), (2, .ref (tb)), (0, .ref (hm)), (1, .ref (ke))]) hexec hb dJ21_getNode_76 hl (by decide) rfl (fun ls hl => ?_)
          refine lv_ifnull hexec hb dJ21_getNode_78 ?_
          refine lv_aload_n hexec hb dJ21_getNode_81 rfl (lv_at hl 1 rfl) ?_
          refine g_instNo X hG hS (gObj.mk hx (r := (RJ23, TJ23, 4)) rfl) (by decide) q699 dJ21_getNode_82 ?_
          refine g_ifn_eq hexec hb 99 dJ21_getNode_85 (by decide) (a := 0) rfl (by decide) (fun c_85 => ?_) (fun c_85 => ?_)
          · skip
            have loop_ : ∀ (l2 : List (Nat × hE)) (y : Nat) (d2 : hE) (nx2 : Option Nat) (H : Heap) (locs : List Loc) (ls : Array Slot), G y = some (τ, ndO d2 nx2) → chn G τ l2 nx2 → Mh = fnd h ((y, d2) :: l2) → (∀ u ∈ (y, d2) :: l2, kOK K G κ u.2.2.1 u.2.1) → gH K G H → va_S (gA K) s.heap H locs → lv_has ls 8 [(4, .ref (y)), (3, .ref (x)), (6, .int (nI (h))), (5, .int (nI (n))), (2, .ref (tb)), (0, .ref (hm)), (1, .ref (ke))] → W p l e ({ frames := 6, cells := 0, slots := 0, locals := 300 } : Room) s m ([.ref (hm), .ref (ke)] : List Value).toArray below meth c H locs 0 0 (MQ below (gQ K (fun w G1 => G1 = G ∧ ((Mh = none ∧ w = some .null) ∨ ∃ a d nx, Mh = some d.2.2 ∧ d.1 = h ∧ w = some (.ref a) ∧ G a = some (τ, ndO d nx)))) ([.ref (hm), .ref (ke)] : List Value).toArray s 0 0 (gA K)) (F0 m 99 ls []) := by
              intro l2
              induction l2 with
              | nil =>
                intro y d2 nx2 H locs ls hy hch2 hM hin hG hS hl
                have hkd2 := hin (y, d2) List.mem_cons_self
                have hd265 : d2.1 < 65536 := hkd2.1
                refine lv_aload hexec hb dJ21_getNode_99 (lv_at hl 0 rfl) ?_
                refine g_get X hG hy (ci := 11) rfl in_J23 0 (by decide) q721 (fun _ h => h) rfl dJ21_getNode_101 ?_
                refine lv_iload hexec hb dJ21_getNode_104 (lv_at hl 2 rfl) ?_
                refine g_icmp_ne hexec hb 137 dJ21_getNode_106 (by decide) (a := d2.1) (b := h) rfl rfl (by have := hn; unfold nth at this; omega) (by have := hn; unfold nth at this; omega) (fun c_106 => ?_) (fun c_106 => ?_)
                · skip
                  refine lv_aload hexec hb dJ21_getNode_137 (lv_at hl 0 rfl) ?_
                  refine g_get X hG hy (ci := 11) rfl in_J23 3 (by decide) q732 (fun _ h => h) rfl dJ21_getNode_139 ?_
                  rw [fnd_no c_106] at hM
                  have hn2 : nx2 = none := hch2
                  subst hn2
                  refine lv_dup hexec hb dJ21_getNode_142 rfl ?_
                  refine lv_astoreN (lv' := [(4, .null), (3, .ref (x)), (6, .int (nI (h))), (5, .int (nI (n))), (2, .ref (tb)), (0, .ref (hm)), (1, .ref (ke))]) hexec hb dJ21_getNode_143 hl (by decide) rfl (fun ls hl => ?_)
                  refine lv_ifnonnullN hexec hb dJ21_getNode_145 ?_
                  refine lv_null hexec hb dJ21_getNode_148 ?_
                  exact g_aret X hr (Or.inl ⟨_, rfl⟩) hG hS (Or.inl rfl) ⟨rfl, Or.inl ⟨hM, rfl⟩⟩ (Nat.le_of_ble_eq_true rfl) (Nat.le_of_ble_eq_true rfl) dJ21_getNode_149
                · skip
                  refine lv_aload hexec hb dJ21_getNode_109 (lv_at hl 0 rfl) ?_
                  refine g_get X hG hy (ci := 11) rfl in_J23 1 (by decide) q725 (fun _ h => h) rfl dJ21_getNode_111 ?_
                  refine lv_dup hexec hb dJ21_getNode_114 rfl ?_
                  refine lv_astore (lv' := [(7, .ref (d2.2.1)), (4, .ref (y)), (3, .ref (x)), (6, .int (nI (h))), (5, .int (nI (n))), (2, .ref (tb)), (0, .ref (hm)), (1, .ref (ke))]) hexec hb dJ21_getNode_115 hl (by decide) rfl (fun ls hl => ?_)
                  refine lv_aload_n hexec hb dJ21_getNode_117 rfl (lv_at hl 7 rfl) ?_
                  refine lv_acmp_eq (rx := some d2.2.1) (ry := some ke) (tgt := 134) hexec hb dJ21_getNode_118 (by decide) (fun c_118 => ?_) (fun c_118 => ?_)
                  · skip
                    refine lv_aload hexec hb dJ21_getNode_134 (lv_at hl 1 rfl) ?_
                    exact g_aret X hr (Or.inl ⟨_, rfl⟩) hG hS (Or.inr ⟨_, rfl⟩) ⟨rfl, Or.inr ⟨y, d2, nx2, by rw [hM, fnd_hit c_106], c_106, rfl, hy⟩⟩ (Nat.le_of_ble_eq_true rfl) (Nat.le_of_ble_eq_true rfl) dJ21_getNode_136
                  · skip
                    refine lv_aload_n hexec hb dJ21_getNode_121 rfl (lv_at hl 7 rfl) ?_
                    refine lv_ifnull hexec hb dJ21_getNode_122 ?_
                    refine lv_aload_n hexec hb dJ21_getNode_125 rfl (lv_at hl 7 rfl) ?_
                    refine lv_aload hexec hb dJ21_getNode_126 (lv_at hl 0 rfl) ?_
                    refine g_equalsC X hG hS hl hk (v2 := d2.2.1) (by have := hkd2; rw [c_106] at this; exact this) ⟨Nat.le_of_ble_eq_true rfl, Nat.le_of_ble_eq_true rfl⟩ ⟨Nat.le_of_ble_eq_true rfl, Nat.le_of_ble_eq_true rfl⟩ (rest := []) (Nat.le_of_ble_eq_true rfl) dJ21_getNode_128 (fun H locs hG hS => ?_)
                    refine W.eq (g2 := F0 m 131 ls [.int (1)]) rfl ?_
                    refine g_ifn_eq hexec hb 137 dJ21_getNode_131 (by decide) (a := 1) rfl (by decide) (fun c_131 => ?_) (fun c_131 => ?_)
                    · exact absurd c_131 (by decide)
                    · skip
                      refine lv_aload hexec hb dJ21_getNode_134 (lv_at hl 1 rfl) ?_
                      exact g_aret X hr (Or.inl ⟨_, rfl⟩) hG hS (Or.inr ⟨_, rfl⟩) ⟨rfl, Or.inr ⟨y, d2, nx2, by rw [hM, fnd_hit c_106], c_106, rfl, hy⟩⟩ (Nat.le_of_ble_eq_true rfl) (Nat.le_of_ble_eq_true rfl) dJ21_getNode_136
              | cons u3 l3 ih_ =>
                intro y d2 nx2 H locs ls hy hch2 hM hin hG hS hl
                have hkd2 := hin (y, d2) List.mem_cons_self
                have hd265 : d2.1 < 65536 := hkd2.1
                refine lv_aload hexec hb dJ21_getNode_99 (lv_at hl 0 rfl) ?_
                refine g_get X hG hy (ci := 11) rfl in_J23 0 (by decide) q721 (fun _ h => h) rfl dJ21_getNode_101 ?_
                refine lv_iload hexec hb dJ21_getNode_104 (lv_at hl 2 rfl) ?_
                refine g_icmp_ne hexec hb 137 dJ21_getNode_106 (by decide) (a := d2.1) (b := h) rfl rfl (by have := hn; unfold nth at this; omega) (by have := hn; unfold nth at this; omega) (fun c_106 => ?_) (fun c_106 => ?_)
                · skip
                  refine lv_aload hexec hb dJ21_getNode_137 (lv_at hl 0 rfl) ?_
                  refine g_get X hG hy (ci := 11) rfl in_J23 3 (by decide) q732 (fun _ h => h) rfl dJ21_getNode_139 ?_
                  rw [fnd_no c_106] at hM
                  obtain ⟨z, d3⟩ := u3
                  obtain ⟨h1_, nx3, hz, hch3⟩ := hch2
                  subst h1_
                  have hM1 := hM
                  have hl3 : (z, d3) :: l3 = (z, d3) :: l3 := rfl
                  refine lv_dup hexec hb dJ21_getNode_142 rfl ?_
                  refine lv_astore (lv' := [(4, .ref (z)), (3, .ref (x)), (6, .int (nI (h))), (5, .int (nI (n))), (2, .ref (tb)), (0, .ref (hm)), (1, .ref (ke))]) hexec hb dJ21_getNode_143 hl (by decide) rfl (fun ls hl => ?_)
                  refine lv_ifnonnull (tgt := 99) hexec hb dJ21_getNode_145 (by decide) ?_
                  exact ih_ z d3 nx3 H locs ls hz hch3 (hM1.trans (congrArg (fnd h) hl3)) (fun u hu => hin u (List.mem_cons_of_mem _ (by rw [hl3]; exact hu))) hG hS (lv_sub hl [0, 1, 2, 3, 4, 5, 6] rfl)
                · skip
                  refine lv_aload hexec hb dJ21_getNode_109 (lv_at hl 0 rfl) ?_
                  refine g_get X hG hy (ci := 11) rfl in_J23 1 (by decide) q725 (fun _ h => h) rfl dJ21_getNode_111 ?_
                  refine lv_dup hexec hb dJ21_getNode_114 rfl ?_
                  refine lv_astore (lv' := [(7, .ref (d2.2.1)), (4, .ref (y)), (3, .ref (x)), (6, .int (nI (h))), (5, .int (nI (n))), (2, .ref (tb)), (0, .ref (hm)), (1, .ref (ke))]) hexec hb dJ21_getNode_115 hl (by decide) rfl (fun ls hl => ?_)
                  refine lv_aload_n hexec hb dJ21_getNode_117 rfl (lv_at hl 7 rfl) ?_
                  refine lv_acmp_eq (rx := some d2.2.1) (ry := some ke) (tgt := 134) hexec hb dJ21_getNode_118 (by decide) (fun c_118 => ?_) (fun c_118 => ?_)
                  · skip
                    refine lv_aload hexec hb dJ21_getNode_134 (lv_at hl 1 rfl) ?_
                    exact g_aret X hr (Or.inl ⟨_, rfl⟩) hG hS (Or.inr ⟨_, rfl⟩) ⟨rfl, Or.inr ⟨y, d2, nx2, by rw [hM, fnd_hit c_106], c_106, rfl, hy⟩⟩ (Nat.le_of_ble_eq_true rfl) (Nat.le_of_ble_eq_true rfl) dJ21_getNode_136
                  · skip
                    refine lv_aload_n hexec hb dJ21_getNode_121 rfl (lv_at hl 7 rfl) ?_
                    refine lv_ifnull hexec hb dJ21_getNode_122 ?_
                    refine lv_aload_n hexec hb dJ21_getNode_125 rfl (lv_at hl 7 rfl) ?_
                    refine lv_aload hexec hb dJ21_getNode_126 (lv_at hl 0 rfl) ?_
                    refine g_equalsC X hG hS hl hk (v2 := d2.2.1) (by have := hkd2; rw [c_106] at this; exact this) ⟨Nat.le_of_ble_eq_true rfl, Nat.le_of_ble_eq_true rfl⟩ ⟨Nat.le_of_ble_eq_true rfl, Nat.le_of_ble_eq_true rfl⟩ (rest := []) (Nat.le_of_ble_eq_true rfl) dJ21_getNode_128 (fun H locs hG hS => ?_)
                    refine W.eq (g2 := F0 m 131 ls [.int (1)]) rfl ?_
                    refine g_ifn_eq hexec hb 137 dJ21_getNode_131 (by decide) (a := 1) rfl (by decide) (fun c_131 => ?_) (fun c_131 => ?_)
                    · exact absurd c_131 (by decide)
                    · skip
                      refine lv_aload hexec hb dJ21_getNode_134 (lv_at hl 1 rfl) ?_
                      exact g_aret X hr (Or.inl ⟨_, rfl⟩) hG hS (Or.inr ⟨_, rfl⟩) ⟨rfl, Or.inr ⟨y, d2, nx2, by rw [hM, fnd_hit c_106], c_106, rfl, hy⟩⟩ (Nat.le_of_ble_eq_true rfl) (Nat.le_of_ble_eq_true rfl) dJ21_getNode_136
            exact loop_ l2 y d2 nx2 _ _ ls hy hch2 (hM1.trans (congrArg (fnd h) hl2)) (fun u hu => (hbk.2 u (by rw [hl1]; exact List.mem_cons_of_mem _ (by rw [hl2]; exact hu))).2.2) hG hS (lv_sub hl [0, 1, 2, 3, 4, 5, 6] rfl)
          · exact absurd rfl c_85
      · skip
        refine lv_aload_n hexec hb dJ21_getNode_45 rfl (lv_at hl 0 rfl) ?_
        refine g_get X hG hx (ci := 11) rfl in_J23 1 (by decide) q725 (fun _ h => h) rfl dJ21_getNode_46 ?_
        refine lv_dup hexec hb dJ21_getNode_49 rfl ?_
        refine lv_astore (lv' := [(7, .ref (d.2.1)), (3, .ref (x)), (6, .int (nI (h))), (5, .int (nI (n))), (2, .ref (tb)), (0, .ref (hm)), (1, .ref (ke))]) hexec hb dJ21_getNode_50 hl (by decide) rfl (fun ls hl => ?_)
        refine lv_aload_n hexec hb dJ21_getNode_52 rfl (lv_at hl 6 rfl) ?_
        refine lv_acmp_eq (rx := some d.2.1) (ry := some ke) (tgt := 69) hexec hb dJ21_getNode_53 (by decide) (fun c_53 => ?_) (fun c_53 => ?_)
        · skip
          refine lv_aload_n hexec hb dJ21_getNode_69 rfl (lv_at hl 1 rfl) ?_
          exact g_aret X hr (Or.inl ⟨_, rfl⟩) hG hS (Or.inr ⟨_, rfl⟩) ⟨rfl, Or.inr ⟨x, d, nx, by rw [hM, hl1, fnd_hit c_42], c_42, rfl, hx⟩⟩ (Nat.le_of_ble_eq_true rfl) (Nat.le_of_ble_eq_true rfl) dJ21_getNode_70
        · skip
          refine lv_aload_n hexec hb dJ21_getNode_56 rfl (lv_at hl 6 rfl) ?_
          refine lv_ifnull hexec hb dJ21_getNode_57 ?_
          refine lv_aload_n hexec hb dJ21_getNode_60 rfl (lv_at hl 6 rfl) ?_
          refine lv_aload hexec hb dJ21_getNode_61 (lv_at hl 0 rfl) ?_
          refine g_equalsC X hG hS hl hk (v2 := d.2.1) (by have := hkd; rw [c_42] at this; exact this) ⟨Nat.le_of_ble_eq_true rfl, Nat.le_of_ble_eq_true rfl⟩ ⟨Nat.le_of_ble_eq_true rfl, Nat.le_of_ble_eq_true rfl⟩ (rest := []) (Nat.le_of_ble_eq_true rfl) dJ21_getNode_63 (fun H locs hG hS => ?_)
          refine W.eq (g2 := F0 m 66 ls [.int (1)]) rfl ?_
          refine g_ifn_eq hexec hb 71 dJ21_getNode_66 (by decide) (a := 1) rfl (by decide) (fun c_66 => ?_) (fun c_66 => ?_)
          · exact absurd c_66 (by decide)
          · skip
            refine lv_aload_n hexec hb dJ21_getNode_69 rfl (lv_at hl 1 rfl) ?_
            exact g_aret X hr (Or.inl ⟨_, rfl⟩) hG hS (Or.inr ⟨_, rfl⟩) ⟨rfl, Or.inr ⟨x, d, nx, by rw [hM, hl1, fnd_hit c_42], c_42, rfl, hx⟩⟩ (Nat.le_of_ble_eq_true rfl) (Nat.le_of_ble_eq_true rfl) dJ21_getNode_70
set_option maxHeartbeats 2000000 in
set_option maxRecDepth 100000 in
theorem met_J21_getNodeE (l : Launch) (K : gK) (G : gT) (τ hm ke h : Nat) (md : Int32) (Mh : Option (Option Nat)) (hh : G hm = some (τ, hmO none 0 md 0)) (hM : Mh = none)  : gMet l K yJ21_getNode cJ21_getNode 8 (some (.object "java/util/HashMap$Node")) 6 300 0 0 [.ref (hm), .ref (ke)] G (fun w G1 => G1 = G ∧ ((Mh = none ∧ w = some .null) ∨ ∃ a d nx, Mh = some d.2.2 ∧ d.1 = h ∧ w = some (.ref a) ∧ G a = some (τ, ndO d nx))) := by
  refine gMet.of (by decide) (Nat.le_of_ble_eq_true rfl) (fun p e s m below meth c ls hx0 hb X hr hin hG hS hl => ?_)
  have hexec := hx0
  have X : gC K p s m _ meth c cJ21_getNode 8 "java/util/HashMap" := X
  have hl : lv_has ls 8 [(0, .ref (hm)), (1, .ref (ke))] := hl
  have hF : gF (fun _ => True) G G := gF.rf
  refine lv_aload_n hexec hb dJ21_getNode_0 rfl (lv_at hl 0 rfl) ?_
  refine g_get X hG hh (ci := 9) rfl in_J21 2 (by decide) q519 (fun _ h => h) rfl dJ21_getNode_1 ?_
  refine lv_dup hexec hb dJ21_getNode_4 rfl ?_
  refine lv_astore_nN (lv' := [(2, .null), (0, .ref (hm)), (1, .ref (ke))]) hexec hb dJ21_getNode_5 rfl hl (by decide) rfl (fun ls hl => ?_)
  refine lv_ifnullN (tgt := 148) hexec hb dJ21_getNode_6 (by decide) ?_
  refine lv_null hexec hb dJ21_getNode_148 ?_
  exact g_aret X hr (Or.inl ⟨_, rfl⟩) hG hS (Or.inl rfl) ⟨rfl, Or.inl ⟨hM, rfl⟩⟩ (Nat.le_of_ble_eq_true rfl) (Nat.le_of_ble_eq_true rfl) dJ21_getNode_149
theorem met_J21_getNode (l : Launch) (K : gK) (G : gT) (τ hm sz ke h : Nat) (κ : Bool) (Dom : List Nat) (M : Nat → Option (Option Nat)) (hm0 : isHM K G τ κ Dom hm sz M) (hk : kOK K G κ ke h) : gMet l K yJ21_getNode cJ21_getNode 8 (some (.object "java/util/HashMap$Node")) 6 300 0 0 [.ref hm, .ref ke] G (fun w G1 => G1 = G ∧ ((M h = none ∧ w = some .null) ∨ ∃ a d nx, M h = some d.2.2 ∧ d.1 = h ∧ w = some (.ref a) ∧ G a = some (τ, ndO d nx))) := by
  obtain ⟨md, ⟨h1, h2, h3⟩ | ⟨tb, n, th, f, B, h1, h2, h3, ⟨h4, h5⟩, h6⟩⟩ := hm0
  · exact met_J21_getNodeE l K G τ hm ke h md (M h) h1 (h3 h)
  · have hlt : h % n < n := Nat.mod_lt _ (by unfold nth at h2; omega)
    exact met_J21_getNodeT l K G τ hm sz n th tb ke h κ Dom md f (B (h % n)) (M h) h1 h4 h2 hk (h5 _ hlt).1 (h5 _ hlt).2 (h6 h)
section HR
variable {p : Program} {l : Launch} {e : Env} {R : Room} {s : State} {m : MethodId} {args : Array Value} {below : List Frame} {meth : Method} {c : Code} {H : Heap} {cc : ByteArray} {K : gK} {own : String} {nL : Nat} {G : gT}
theorem isHM.recv (X : gC K p s m args meth c cc nL own) (hG : gH K G H) {τ hm sz : Nat} {κ : Bool} {Dom : List Nat} {M : Nat → Option (Option Nat)} (h : isHM K G τ κ Dom hm sz M) : ∃ cell : Cell, H[hm]? = some cell ∧ cell.vm.isStatics = false ∧ s.vm.findClass "java/util/HashMap" = some cell.cls := by
  obtain ⟨md, ⟨h1, _⟩ | ⟨tb, n, th, f, B, h1, _⟩⟩ := h
  · exact gRecv X hG h1 (ci := 9) rfl rfl
  · exact gRecv X hG h1 (ci := 9) rfl rfl
end HR
set_option maxHeartbeats 2000000 in
set_option maxRecDepth 100000 in
theorem met_J21_getOrDefault (l : Launch) (K : gK) (G : gT) (τ hm sz ke h : Nat) (κ : Bool) (Dom : List Nat) (M : Nat → Option (Option Nat)) (hM0 : isHM K G τ κ Dom hm sz M) (hk : kOK K G κ ke h) (df : Nat)  : gMet l K yJ21_getOrDefault cJ21_getOrDefault 4 (some (.object "java/lang/Object")) 7 343 0 0 [.ref (hm), .ref (ke), .ref (df)] G (fun w G1 => w = some (va_rf ((M h).getD (some df))) ∧ G1 = G) := by
  refine gMet.of (by decide) (Nat.le_of_ble_eq_true rfl) (fun p e s m below meth c ls hx0 hb X hr hin hG hS hl => ?_)
  have hexec := hx0
  have X : gC K p s m _ meth c cJ21_getOrDefault 4 "java/util/HashMap" := X
  have hl : lv_has ls 4 [(0, .ref (hm)), (1, .ref (ke)), (2, .ref (df))] := hl
  have hF : gF (fun _ => True) G G := gF.rf
  refine lv_aload_n hexec hb dJ21_getOrDefault_0 rfl (lv_at hl 0 rfl) ?_
  refine lv_aload_n hexec hb dJ21_getOrDefault_1 rfl (lv_at hl 1 rfl) ?_
  refine g_callV X (met_J21_getNode l K G τ hm sz ke h κ Dom M hM0 hk) gp_J21_getNode rfl q921 q922 (C := "java/util/HashMap") q923 q64 q924 hG hS (hM0.recv X hG) hl ⟨Nat.le_of_ble_eq_true rfl, Nat.le_of_ble_eq_true rfl⟩ ⟨Nat.le_of_ble_eq_true rfl, Nat.le_of_ble_eq_true rfl⟩ (rest := []) (Nat.le_of_ble_eq_true rfl) rfl dJ21_getOrDefault_2 (fun w G1 H locs hp hG hS => ?_)
  obtain ⟨hge, hp⟩ := hp
  rw [hge] at hG
  rcases hp with ⟨hMh, rfl⟩ | ⟨a, d, nx, hMh, hd, rfl, ha⟩
  · skip
    refine W.eq (g2 := F0 m 5 ls [.null]) rfl ?_
    refine lv_dup hexec hb dJ21_getOrDefault_5 rfl ?_
    refine lv_astore_nN (lv' := [(3, .null), (0, .ref (hm)), (1, .ref (ke)), (2, .ref (df))]) hexec hb dJ21_getOrDefault_6 rfl hl (by decide) rfl (fun ls hl => ?_)
    refine lv_ifnonnullN hexec hb dJ21_getOrDefault_7 ?_
    refine lv_aload_n hexec hb dJ21_getOrDefault_10 rfl (lv_at hl 3 rfl) ?_
    refine lv_goto (tgt := 18) hexec hb dJ21_getOrDefault_11 (by decide) ?_
    exact g_aret X hr (Or.inl ⟨_, rfl⟩) hG hS (Or.inr ⟨_, rfl⟩) ⟨by rw [hMh]; rfl, rfl⟩ (Nat.le_of_ble_eq_true rfl) (Nat.le_of_ble_eq_true rfl) dJ21_getOrDefault_18
  · skip
    refine W.eq (g2 := F0 m 5 ls [.ref (a)]) rfl ?_
    refine lv_dup hexec hb dJ21_getOrDefault_5 rfl ?_
    refine lv_astore_n (lv' := [(3, .ref (a)), (0, .ref (hm)), (1, .ref (ke)), (2, .ref (df))]) hexec hb dJ21_getOrDefault_6 rfl hl (by decide) rfl (fun ls hl => ?_)
    refine lv_ifnonnull (tgt := 14) hexec hb dJ21_getOrDefault_7 (by decide) ?_
    refine lv_aload_n hexec hb dJ21_getOrDefault_14 rfl (lv_at hl 0 rfl) ?_
    refine g_get X hG ha (ci := 11) rfl in_J23 2 (by decide) q727 (fun _ h => h) rfl dJ21_getOrDefault_15 ?_
    exact g_aret X hr (Or.inl ⟨_, rfl⟩) hG hS (va_rf_or _) ⟨by rw [hMh]; rfl, rfl⟩ (Nat.le_of_ble_eq_true rfl) (Nat.le_of_ble_eq_true rfl) dJ21_getOrDefault_18
set_option maxHeartbeats 2000000 in
set_option maxRecDepth 100000 in
theorem met_J21_containsKey (l : Launch) (K : gK) (G : gT) (τ hm sz ke h : Nat) (κ : Bool) (Dom : List Nat) (M : Nat → Option (Option Nat)) (hM0 : isHM K G τ κ Dom hm sz M) (hk : kOK K G κ ke h)  : gMet l K yJ21_containsKey cJ21_containsKey 2 (some .boolean) 7 343 0 0 [.ref (hm), .ref (ke)] G (fun w G1 => w = some (.int (gb (M h).isSome)) ∧ G1 = G) := by
  refine gMet.of (by decide) (Nat.le_of_ble_eq_true rfl) (fun p e s m below meth c ls hx0 hb X hr hin hG hS hl => ?_)
  have hexec := hx0
  have X : gC K p s m _ meth c cJ21_containsKey 2 "java/util/HashMap" := X
  have hl : lv_has ls 2 [(0, .ref (hm)), (1, .ref (ke))] := hl
  have hF : gF (fun _ => True) G G := gF.rf
  refine lv_aload_n hexec hb dJ21_containsKey_0 rfl (lv_at hl 0 rfl) ?_
  refine lv_aload_n hexec hb dJ21_containsKey_1 rfl (lv_at hl 1 rfl) ?_
  refine g_callV X (met_J21_getNode l K G τ hm sz ke h κ Dom M hM0 hk) gp_J21_getNode rfl q921 q922 (C := "java/util/HashMap") q923 q64 q924 hG hS (hM0.recv X hG) hl ⟨Nat.le_of_ble_eq_true rfl, Nat.le_of_ble_eq_true rfl⟩ ⟨Nat.le_of_ble_eq_true rfl, Nat.le_of_ble_eq_true rfl⟩ (rest := []) (Nat.le_of_ble_eq_true rfl) rfl dJ21_containsKey_2 (fun w G1 H locs hp hG hS => ?_)
  obtain ⟨hge, hp⟩ := hp
  rw [hge] at hG
  rcases hp with ⟨hMh, rfl⟩ | ⟨a, d, nx, hMh, hd, rfl, ha⟩
  · skip
    refine W.eq (g2 := F0 m 5 ls [.null]) rfl ?_
    refine lv_ifnullN (tgt := 12) hexec hb dJ21_containsKey_5 (by decide) ?_
    refine lv_iconst (v := 0) hexec hb dJ21_containsKey_12 (by decide) ?_
    exact g_zret X hr hG hS rfl ⟨by rw [hMh]; rfl, rfl⟩ (Nat.le_of_ble_eq_true rfl) (Nat.le_of_ble_eq_true rfl) dJ21_containsKey_13
  · skip
    refine W.eq (g2 := F0 m 5 ls [.ref (a)]) rfl ?_
    refine lv_ifnull hexec hb dJ21_containsKey_5 ?_
    refine lv_iconst (v := 1) hexec hb dJ21_containsKey_8 (by decide) ?_
    refine lv_goto (tgt := 13) hexec hb dJ21_containsKey_9 (by decide) ?_
    exact g_zret X hr hG hS rfl ⟨by rw [hMh]; rfl, rfl⟩ (Nat.le_of_ble_eq_true rfl) (Nat.le_of_ble_eq_true rfl) dJ21_containsKey_13
