/-! hash maps: hashing, nodes (printed by gen/jdk4.py) -/
set_option maxRecDepth 100000
/-- a key of hash h: an Integer, or (κ) a pair of a track and a hit -/
def kOK (K : gK) (G : gT) (κ : Bool) (v h : Nat) : Prop := h < 65536 ∧ if κ = true then ∃ t u, h = 8 * t + u ∧ u < 8 ∧ G v = some (10000, .inr (4, [.int (nI t), .int (nI u)])) else isI K G v (nI h)
theorem kOK.fr {K : gK} {G G1 : gT} {S : Nat → Prop} {κ : Bool} {v h : Nat} (hk : kOK K G κ v h) (hF : gF S G G1) (hS : ¬ S 10000) : kOK K G1 κ v h := by
  obtain ⟨h1, h2⟩ := hk
  refine ⟨h1, ?_⟩
  cases κ with
  | true => obtain ⟨t, u, a, b, d⟩ := h2; exact ⟨t, u, a, b, hF.1 _ _ _ d hS⟩
  | false => exact h2.fr hF hS
theorem kOK.fr1 {K : gK} {G G1 : gT} {τ : Nat} {κ : Bool} {v h : Nat} (hk : kOK K G κ v h) (hF : gF (fun t => t = τ) G G1) (hS : 10000 ≠ τ) : kOK K G1 κ v h := hk.fr hF hS
theorem kOK.ext {K : gK} {G G1 : gT} {κ : Bool} {v h : Nat} (hk : kOK K G κ v h) (hF : gExt G G1) : kOK K G1 κ v h := hk.fr (S := fun _ => False) hF.gF (fun q => q)
theorem gp_hc : gPar ⟨"java/lang/Object", "hashCode", "()I"⟩ 0 := ⟨⟨by decide, by decide⟩, by decide +kernel⟩
theorem gp_eq : gPar ⟨"java/lang/Object", "equals", "(Ljava/lang/Object;)Z"⟩ 1 := ⟨⟨by decide, by decide⟩, by decide +kernel⟩
section HC
variable {p : Program} {l : Launch} {e : Env} {R : Room} {s : State} {m : MethodId} {args : Array Value} {below : List Frame} {meth : Method} {c : Code} {H : Heap} {locs : List Loc} {cells slots : Nat} {Q : State → Prop}
variable {cc : ByteArray} {pc : Nat} {ls : Array Slot} {rest : List Value} {K : gK} {own : String} {nL : Nat} {G : gT} {L : List (Nat × Value)} {κ : Bool} {v v2 h : Nat}
theorem g_hashC (X : gC K p s m args meth c cc nL "java/util/HashMap") (hG : gH K G H) (hS : va_S (gA K) s.heap H locs) (hl : lv_has ls nL L) (hk : kOK K G κ v h) (hR : 2 ≤ R.frames ∧ 100 ≤ R.locals) (hf : cells ≤ R.cells ∧ slots ≤ R.slots) (hroom : (rest.map fun v => v.category).sum ≤ 24) (hdg : decode cc pc = .ok (.invokevirtual 1, 3))
    (kk : ∀ (H1 : Heap) (locs1 : List Loc), gH K G H1 → va_S (gA K) s.heap H1 locs1 → W p l e R s m args below meth c H1 locs1 cells slots Q (F0 m (pc + 3) ls (.int (nI h) :: rest))) : W p l e R s m args below meth c H locs cells slots Q (F0 m pc ls (.ref v :: rest)) := by
  obtain ⟨h0, h1⟩ := hk
  have hD : va_Decl s ⟨"java/lang/Object", "hashCode", "()I"⟩ := va_Decl.abs (X.2.1.2.2.2.1.2.1 _ (by decide))
  cases κ with
  | false =>
    have h1 : isI K G v (nI h) := h1
    refine g_callU X (x := ⟨"java/lang/Object", "hashCode", "()I"⟩) (met_J9_hashCode l K G v (nI h) h1) gp_hc rfl q657 q674 (C := "java/lang/Integer") q673 q49 q675 q659 hD hG hS (h1.obj.recv X hG hS) hl ⟨by omega, by omega⟩ ⟨by omega, by omega⟩ (rest := rest) hroom rfl hdg (fun w G1 H1 locs1 hp hG1 hS1 => ?_)
    obtain ⟨rfl, hge⟩ := hp
    rw [hge] at hG1
    exact kk H1 locs1 hG1 hS1
  | true =>
    obtain ⟨t, u, a, b, d⟩ := h1
    subst a
    refine g_callU X (x := ⟨"java/lang/Object", "hashCode", "()I"⟩) (met_X5_hashCode l K G v t u d) gp_hc rfl q657 q664 (C := "KalmanQuay$Pair") q663 q66 q665 q659 hD hG hS (gRecv X hG d (ci := 4) rfl rfl) hl ⟨by omega, by omega⟩ ⟨by omega, by omega⟩ (rest := rest) hroom rfl hdg (fun w G1 H1 locs1 hp hG1 hS1 => ?_)
    obtain ⟨rfl, hge⟩ := hp
    rw [hge] at hG1
    exact kk H1 locs1 hG1 hS1
theorem g_equalsC (X : gC K p s m args meth c cc nL "java/util/HashMap") (hG : gH K G H) (hS : va_S (gA K) s.heap H locs) (hl : lv_has ls nL L) (hk : kOK K G κ v h) (hk2 : kOK K G κ v2 h) (hR : 3 ≤ R.frames ∧ 150 ≤ R.locals) (hf : cells ≤ R.cells ∧ slots ≤ R.slots) (hroom : (rest.map fun v => v.category).sum ≤ 24) (hdg : decode cc pc = .ok (.invokevirtual 173, 3))
    (kk : ∀ (H1 : Heap) (locs1 : List Loc), gH K G H1 → va_S (gA K) s.heap H1 locs1 → W p l e R s m args below meth c H1 locs1 cells slots Q (F0 m (pc + 3) ls (.int 1 :: rest))) : W p l e R s m args below meth c H locs cells slots Q (F0 m pc ls (.ref v2 :: .ref v :: rest)) := by
  obtain ⟨h0, h1⟩ := hk
  obtain ⟨_, h2⟩ := hk2
  have hD : va_Decl s ⟨"java/lang/Object", "equals", "(Ljava/lang/Object;)Z"⟩ := va_Decl.abs (X.2.1.2.2.2.1.2.1 _ (by decide))
  cases κ with
  | false =>
    have h1 : isI K G v (nI h) := h1
    have h2 : isI K G v2 (nI h) := h2
    refine g_callU X (x := ⟨"java/lang/Object", "equals", "(Ljava/lang/Object;)Z"⟩) (met_J9_equals l K G v v2 h h0 h1 h2) gp_eq rfl q805 q823 (C := "java/lang/Integer") q822 q49 q824 q807 hD hG hS (h1.obj.recv X hG hS) hl ⟨by omega, by omega⟩ ⟨by omega, by omega⟩ (rest := rest) hroom rfl hdg (fun w G1 H1 locs1 hp hG1 hS1 => ?_)
    obtain ⟨rfl, hge⟩ := hp
    rw [hge] at hG1
    exact kk H1 locs1 hG1 hS1
  | true =>
    obtain ⟨t, u, a, b, d⟩ := h1
    obtain ⟨t2, u2, a2, b2, d2⟩ := h2
    refine g_callU X (x := ⟨"java/lang/Object", "equals", "(Ljava/lang/Object;)Z"⟩) (met_X5_equals l K G v v2 t u t2 u2 (by omega) (by omega) b b2 d d2) gp_eq rfl q805 q812 (C := "KalmanQuay$Pair") q811 q66 q813 q807 hD hG hS (gRecv X hG d (ci := 4) rfl rfl) hl ⟨by omega, by omega⟩ ⟨by omega, by omega⟩ (rest := rest) hroom rfl hdg (fun w G1 H1 locs1 hp hG1 hS1 => ?_)
    obtain ⟨rfl, hge⟩ := hp
    rw [hge] at hG1
    exact kk H1 locs1 hG1 hS1
theorem n_spread {h : Nat} (hh : h < 65536) : nI h ^^^ ((nI h).toUInt32 >>> ((16 : Int32).toUInt32 &&& Int32.toUInt32 31)).toInt32 = nI h := by
  have e : ((nI h).toUInt32 >>> ((16 : Int32).toUInt32 &&& Int32.toUInt32 31)).toInt32 = 0 := by
    apply Int32.toBitVec_inj.mp
    apply BitVec.eq_of_toNat_eq
    have e1 : ((nI h).toUInt32).toNat = h := by
      show (BitVec.ofNat 32 h).toNat = h
      rw [BitVec.toNat_ofNat]
      omega
    have e2 : ((16 : Int32).toUInt32 &&& Int32.toUInt32 31).toNat = 16 := by decide
    show ((nI h).toUInt32 >>> ((16 : Int32).toUInt32 &&& Int32.toUInt32 31)).toNat = 0
    rw [UInt32.toNat_shiftRight, e1, e2, Nat.shiftRight_eq_div_pow]
    exact Nat.div_eq_of_lt hh
  rw [e]
  apply Int32.toBitVec_inj.mp
  simp
end HC
set_option maxHeartbeats 2000000 in
set_option maxRecDepth 100000 in
theorem met_J21_hash (l : Launch) (K : gK) (G : gT) (κ : Bool) (v h : Nat) (hk : kOK K G κ v h)  : gMet l K yJ21_hash cJ21_hash 2 (some .int) 2 100 0 0 [.ref (v)] G (fun w G1 => w = some (.int (nI h)) ∧ G1 = G) := by
  refine gMet.of (by decide) (Nat.le_of_ble_eq_true rfl) (fun p e s m below meth c ls hx0 hb X hr hin hG hS hl => ?_)
  have hexec := hx0
  have X : gC K p s m _ meth c cJ21_hash 2 "java/util/HashMap" := X
  have hl : lv_has ls 2 [(0, .ref (v))] := hl
  have hF : gF (fun _ => True) G G := gF.rf
  refine lv_aload_n hexec hb dJ21_hash_0 rfl (lv_at hl 0 rfl) ?_
  refine lv_ifnonnull (tgt := 8) hexec hb dJ21_hash_1 (by decide) ?_
  refine lv_aload_n hexec hb dJ21_hash_8 rfl (lv_at hl 0 rfl) ?_
  refine g_hashC X hG hS hl hk ⟨Nat.le_of_ble_eq_true rfl, Nat.le_of_ble_eq_true rfl⟩ ⟨Nat.le_of_ble_eq_true rfl, Nat.le_of_ble_eq_true rfl⟩ (rest := []) (Nat.le_of_ble_eq_true rfl) dJ21_hash_9 (fun H locs hG hS => ?_)
  refine W.eq (g2 := F0 m 12 ls [.int (nI (h))]) rfl ?_
  refine lv_dup hexec hb dJ21_hash_12 rfl ?_
  refine lv_istore_n (lv' := [(1, .int (nI (h))), (0, .ref (v))]) hexec hb dJ21_hash_13 rfl hl (by decide) rfl (fun ls hl => ?_)
  refine lv_iload_n hexec hb dJ21_hash_14 rfl (lv_at hl 0 rfl) ?_
  refine lv_bipush (v := 16) hexec hb dJ21_hash_15 (by decide) ?_
  refine lv_iushr hexec hb dJ21_hash_17 rfl ?_
  refine lv_ixor hexec hb dJ21_hash_18 ?_
  exact g_iret X hr hG hS ⟨by rw [n_spread hk.1], rfl⟩ (Nat.le_of_ble_eq_true rfl) (Nat.le_of_ble_eq_true rfl) dJ21_hash_19
