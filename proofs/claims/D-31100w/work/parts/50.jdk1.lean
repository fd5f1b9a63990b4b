/-! lists and boxes (printed by gen/jdk1.py) -/
set_option maxRecDepth 100000
theorem gp_J0_init : gPar yJ0_init 0 := ⟨⟨by decide, by decide⟩, by decide +kernel⟩
theorem gp_J1_init : gPar yJ1_init 0 := ⟨⟨by decide, by decide⟩, by decide +kernel⟩
theorem g_ne_k {G : gT} {a b t u ci : Nat} {x : ClassId × vp_A} {fs : List Value} (ha : G a = some (t, .inl x)) (hb : G b = some (u, .inr (ci, fs))) : a ≠ b := fun q => by rw [q, hb] at ha; cases ha
theorem gF.keep {τ u a : Nat} {e : va_E} {G G1 : gT} (h : gF (fun t => t = τ) G G1) (ha : G a = some (u, e)) (hu : u ≠ τ) : G1 a = some (u, e) := h.1 a u e ha hu
theorem n_shr1 {x : Int32} {n : Nat} (h : x = nI n) (hn : n < 1073741824) : x >>> (1 &&& 31) = nI (n / 2) := by
  subst h
  have hs : (((1 : Int32) &&& 31).toBitVec.smod 32).toNat = 1 := by decide
  apply Int32.toInt_inj.mp
  rw [← Int32.toInt_toBitVec, Int32.toBitVec_shiftRight, BitVec.toInt_sshiftRight', hs, Int32.toInt_toBitVec, nI_toInt (by omega), nI_toInt (by omega)]
  rw [Int.shiftRight_eq_div_pow]
  omega
theorem n_max {x y : Int32} {a b : Nat} (hx : x = nI a) (hy : y = nI b) (ha : a < 2147483648) (hb : b < 2147483648) : (if x < y then y else x) = nI (if a < b then b else a) := by
  by_cases h : a < b
  · rw [if_pos h, if_pos ((n_lt hx hy ha hb).mpr h), hy]
  · rw [if_neg h, if_neg (fun q => h ((n_lt hx hy ha hb).mp q)), hx]
theorem n_min {x y : Int32} {a b : Nat} (hx : x = nI a) (hy : y = nI b) (ha : a < 2147483648) (hb : b < 2147483648) : (if y < x then y else x) = nI (if b < a then b else a) := by
  by_cases h : b < a
  · rw [if_pos h, if_pos ((n_lt hy hx hb ha).mpr h), hy]
  · rw [if_neg h, if_neg (fun q => h ((n_lt hy hx hb ha).mp q)), hx]
/-- what a list may hold -/
def gElt (K : gK) (G : gT) (x : Nat) : Prop := ∃ C : String, gObj K G C x ∧ (C, "java/lang/Object") ∈ gcast
theorem gElt.fr {K : gK} {G G1 : gT} {S : Nat → Prop} {x : Nat} (h : gElt K G x) (hF : gF S G G1) : gElt K G1 x := by
  obtain ⟨C, h1, h2⟩ := h
  exact ⟨C, h1.fr hF, h2⟩
abbrev rowC (K : gK) (n : Nat) (f : Nat → Option Nat) : va_E := .inl (kA K 3, n, .inr (.inr (.inr (.inr f))))
abbrev alO (md : Int32) (ar n : Nat) : va_E := .inr (8, [.int md, .ref ar, .int (nI n)])
/-- a list: its row -/
def isALr (K : gK) (G : gT) (τ al : Nat) (xs : List Nat) (md : Int32) (ar : Nat) : Prop := G al = some (τ, alO md ar xs.length) ∧ (∀ x ∈ xs, gElt K G x) ∧ ((ar = kE K ∧ xs = []) ∨ ∃ (cap : Nat) (f : Nat → Option Nat), G ar = some (τ, rowC K cap f) ∧ 10 ≤ cap ∧ xs.length ≤ cap ∧ cap < 1000000 ∧ ∀ i, i < xs.length → f i = xs[i]?)
def isAL (K : gK) (G : gT) (τ al : Nat) (xs : List Nat) : Prop := ∃ (md : Int32) (ar : Nat), isALr K G τ al xs md ar
theorem isAL.fr {K : gK} {G G1 : gT} {S : Nat → Prop} {τ al : Nat} {xs : List Nat} (h : isAL K G τ al xs) (hF : gF S G G1) (hS : ¬ S τ) : isAL K G1 τ al xs := by
  obtain ⟨md, ar, h1, h2, h3⟩ := h
  refine ⟨md, ar, hF.1 _ _ _ h1 hS, fun x hx => (h2 x hx).fr hF, ?_⟩
  rcases h3 with h3 | ⟨cap, f, h4, h5⟩
  · exact Or.inl h3
  · exact Or.inr ⟨cap, f, hF.1 _ _ _ h4 hS, h5⟩
theorem isAL.fr1 {K : gK} {G G1 : gT} {u τ al : Nat} {xs : List Nat} (h : isAL K G τ al xs) (hF : gF (fun t => t = u) G G1) (hS : τ ≠ u) : isAL K G1 τ al xs := h.fr hF hS
theorem isAL.ext {K : gK} {G G1 : gT} {τ al : Nat} {xs : List Nat} (h : isAL K G τ al xs) (hF : gExt G G1) : isAL K G1 τ al xs := h.fr (S := fun _ => False) hF.gF (fun q => q)
section GC
variable {p : Program} {l : Launch} {e : Env} {R : Room} {s : State} {m : MethodId} {args : Array Value} {below : List Frame} {meth : Method} {c : Code} {H : Heap} {locs : List Loc} {cells slots : Nat} {Q : State → Prop}
variable {cc : ByteArray} {pc : Nat} {ls : Array Slot} {rest : List Value} {K : gK} {own : String} {nL : Nat} {G : gT}
theorem g_getC (X : gC K p s m args meth c cc nL own) (hG : gH K G H) (hl : ls.size = nL) {index : Nat} (hlink : Cond.methodLink own index ⟨"java/lang/Object", "getClass", "()Ljava/lang/Class;"⟩ ∈ lw_all) (hsel : Cond.selects "[Ljava/lang/Object;" ⟨"java/lang/Object", "getClass", "()Ljava/lang/Class;"⟩ ⟨"java/lang/Object", "getClass", "()Ljava/lang/Class;"⟩ ∈ lw_all) (hinst : Cond.instanceMethod ⟨"java/lang/Object", "getClass", "()Ljava/lang/Class;"⟩ ∈ lw_all) (hnat : Cond.native ⟨"java/lang/Object", "getClass", "()Ljava/lang/Class;"⟩ ∈ lw_all)
    {a t : Nat} {x : vp_A} (h : G a = some (t, .inl (kA K 3, x))) (hframes : 1 ≤ R.frames) (hlocals : (rest.map fun v => v.category).sum + 14 ≤ R.locals) (hdg : decode cc pc = .ok (.invokevirtual index, 3))
    (kk : W p l e R s m args below meth c H locs cells slots Q (F0 m (pc + 3) ls (.ref (kM K) :: rest))) : W p l e R s m args below meth c H locs cells slots Q (F0 m pc ls (.ref a :: rest)) :=
  va_getC X.1.1 X.1.2.1 (X.1.2.2.1.trans hl.symm) X.1.2.2.2.1 (X.1.2.2.2.2 _ hlink) (va_Nw.use rfl (X.2.1.2.2.2.1.2.1 _ (by decide))) (X.1.2.2.2.2 _ hsel) (X.1.2.2.2.2 _ hinst) (X.1.2.2.2.2 _ hnat) X.2.1.2.2.2.2.1 (g_oRow X hG h) hframes hlocals hdg kk
theorem gElt.any (X : gC K p s m args meth c cc nL own) (hG : gH K G H) (hS : va_S (gA K) s.heap H locs) {v : Nat} (h : gElt K G v) : va_Any "java/lang/Object" s H v := by
  obtain ⟨C, h1, h2⟩ := h
  exact gAny X hG hS h1 (Or.inr h2)
end GC
set_option maxHeartbeats 2000000 in
set_option maxRecDepth 100000 in
theorem met_J0_init (l : Launch) (K : gK) (G : gT) (a : Nat)  : gMet l K yJ0_init cJ0_init 1 (none) 1 40 0 0 [.ref (a)] G (fun w G1 => w = none ∧ G1 = G) := by
  refine gMet.of (by decide) (Nat.le_of_ble_eq_true rfl) (fun p e s m below meth c ls hx0 hb X hr hin hG hS hl => ?_)
  have hexec := hx0
  have X : gC K p s m _ meth c cJ0_init 1 "java/util/AbstractCollection" := X
  have hl : lv_has ls 1 [(0, .ref (a))] := hl
  have hF : gF (fun _ => True) G G := gF.rf
  refine lv_aload_n hexec hb dJ0_init_0 rfl (lv_at hl 0 rfl) ?_
  refine W.objInit hexec hb X.1.2.2.2.1 (X.1.2.2.2.2 _ q97) (X.1.2.2.2.2 _ q83) (X.1.2.2.2.2 _ q84) rfl (X.1.2.2.1.trans hl.1.symm).symm rfl dJ0_init_1 (Nat.le_of_ble_eq_true rfl) (Nat.le_of_ble_eq_true rfl) ?_
  exact g_vret X hr hG hS ⟨rfl, rfl⟩ (Nat.le_of_ble_eq_true rfl) (Nat.le_of_ble_eq_true rfl) dJ0_init_4
set_option maxHeartbeats 2000000 in
set_option maxRecDepth 100000 in
theorem met_J8_init (l : Launch) (K : gK) (G : gT) (a : Nat)  : gMet l K yJ8_init cJ8_init 1 (none) 1 40 0 0 [.ref (a)] G (fun w G1 => w = none ∧ G1 = G) := by
  refine gMet.of (by decide) (Nat.le_of_ble_eq_true rfl) (fun p e s m below meth c ls hx0 hb X hr hin hG hS hl => ?_)
  have hexec := hx0
  have X : gC K p s m _ meth c cJ8_init 1 "java/lang/Number" := X
  have hl : lv_has ls 1 [(0, .ref (a))] := hl
  have hF : gF (fun _ => True) G G := gF.rf
  refine lv_aload_n hexec hb dJ8_init_0 rfl (lv_at hl 0 rfl) ?_
  refine W.objInit hexec hb X.1.2.2.2.1 (X.1.2.2.2.2 _ q215) (X.1.2.2.2.2 _ q83) (X.1.2.2.2.2 _ q84) rfl (X.1.2.2.1.trans hl.1.symm).symm rfl dJ8_init_1 (Nat.le_of_ble_eq_true rfl) (Nat.le_of_ble_eq_true rfl) ?_
  exact g_vret X hr hG hS ⟨rfl, rfl⟩ (Nat.le_of_ble_eq_true rfl) (Nat.le_of_ble_eq_true rfl) dJ8_init_4
set_option maxHeartbeats 2000000 in
set_option maxRecDepth 100000 in
theorem met_J1_init (l : Launch) (K : gK) (G : gT) (τ al : Nat) (hal : G al = some (τ, .inr (8, [.int 0, .null, .int 0])))  : gMet l K yJ1_init cJ1_init 1 (none) 2 76 0 0 [.ref (al)] G (fun w G1 => w = none ∧ G1 al = some (τ, .inr (8, [.int 0, .null, .int 0])) ∧ gF (fun t => t = τ) G G1) := by
  refine gMet.of (by decide) (Nat.le_of_ble_eq_true rfl) (fun p e s m below meth c ls hx0 hb X hr hin hG hS hl => ?_)
  have hexec := hx0
  have X : gC K p s m _ meth c cJ1_init 1 "java/util/AbstractList" := X
  have hl : lv_has ls 1 [(0, .ref (al))] := hl
  have hF : gF (fun t => t = τ) G G := gF.rf
  refine lv_aload_n hexec hb dJ1_init_0 rfl (lv_at hl 0 rfl) ?_
  refine g_callI X (met_J0_init l K G al) gp_J0_init rfl rfl q94 q95 q39 q96 hG hS hl ⟨Nat.le_of_ble_eq_true rfl, Nat.le_of_ble_eq_true rfl⟩ ⟨(Nat.le_of_ble_eq_true rfl), (Nat.le_of_ble_eq_true rfl)⟩ (rest := []) (Nat.le_of_ble_eq_true rfl) rfl dJ1_init_1 (fun w G_1 H locs hp hG hS => ?_)
  obtain ⟨rfl, hge⟩ := hp
  rw [hge] at hG
  clear hge
  refine W.eq (g2 := F0 m 4 ls []) rfl ?_
  refine lv_aload_n hexec hb dJ1_init_4 rfl (lv_at hl 0 rfl) ?_
  refine lv_iconst (v := 0) hexec hb dJ1_init_5 (by decide) ?_
  refine g_put X hG hS hal (ci := 8) rfl in_J2 tyJ2 tyJ2_ok nmJ2 0 (by decide) q102 (fun _ h => h) rfl rfl rfl (fs1 := [.int (0), .null, .int (0)]) (Nat.le_of_ble_eq_true rfl) rfl dJ1_init_6 (fun H locs hG hS => ?_)
  obtain ⟨G_3, hG, hx, h_new⟩ : ∃ G1, gH K G1 H ∧ gF (fun t => t = τ) G G1 ∧ G1 al = some (τ, .inr (8, [.int (0), .null, .int (0)])) := ⟨_, hG, gF.putO hal rfl, gU_self⟩
  have hF := hF.trans (hx.mono (fun t h => h))
  have hal := h_new
  clear h_new
  exact g_vret X hr hG hS ⟨rfl, hal, hF⟩ (Nat.le_of_ble_eq_true rfl) (Nat.le_of_ble_eq_true rfl) dJ1_init_9
set_option maxHeartbeats 2000000 in
set_option maxRecDepth 100000 in
theorem met_J2_init (l : Launch) (K : gK) (G : gT) (τ al : Nat) (hal : G al = some (τ, .inr (8, [.int 0, .null, .int 0])))  : gMet l K yJ2_init cJ2_init 1 (none) 3 112 0 0 [.ref (al)] G (fun w G1 => w = none ∧ isAL K G1 τ al [] ∧ gF (fun t => t = τ) G G1) := by
  refine gMet.of (by decide) (Nat.le_of_ble_eq_true rfl) (fun p e s m below meth c ls hx0 hb X hr hin hG hS hl => ?_)
  have hexec := hx0
  have X : gC K p s m _ meth c cJ2_init 1 "java/util/ArrayList" := X
  have hl : lv_has ls 1 [(0, .ref (al))] := hl
  have hF : gF (fun t => t = τ) G G := gF.rf
  refine lv_aload_n hexec hb dJ2_init_0 rfl (lv_at hl 0 rfl) ?_
  refine g_callI X (met_J1_init l K G τ al hal) gp_J1_init rfl rfl q91 q92 q40 q93 hG hS hl ⟨Nat.le_of_ble_eq_true rfl, Nat.le_of_ble_eq_true rfl⟩ ⟨(Nat.le_of_ble_eq_true rfl), (Nat.le_of_ble_eq_true rfl)⟩ (rest := []) (Nat.le_of_ble_eq_true rfl) rfl dJ2_init_1 (fun w G_1 H locs hp hG hS => ?_)
  obtain ⟨rfl, h_hal, hx⟩ := hp
  have hF := hF.trans (hx.mono (fun t h => h))
  have hal := h_hal
  refine W.eq (g2 := F0 m 4 ls []) rfl ?_
  refine lv_aload_n hexec hb dJ2_init_4 rfl (lv_at hl 0 rfl) ?_
  refine g_gets X hS X.2.1.2.2.1.1 q98 (fun _ h => h) dJ2_init_5 ?_
  refine g_put X hG hS hal (ci := 8) rfl in_J2 tyJ2 tyJ2_ok nmJ2 1 (by decide) q100 (fun _ h => h) rfl rfl rfl (fs1 := [.int (0), .ref (kE K), .int (0)]) (Nat.le_of_ble_eq_true rfl) rfl dJ2_init_8 (fun H locs hG hS => ?_)
  obtain ⟨G_3, hG, hx, h_new⟩ : ∃ G1, gH K G1 H ∧ gF (fun t => t = τ) G_1 G1 ∧ G1 al = some (τ, .inr (8, [.int (0), .ref (kE K), .int (0)])) := ⟨_, hG, gF.putO hal rfl, gU_self⟩
  have hF := hF.trans (hx.mono (fun t h => h))
  have hal := h_new
  clear h_new
  exact g_vret X hr hG hS ⟨rfl, ⟨0, kE K, hal, fun x hx => absurd hx (by simp), Or.inl ⟨rfl, rfl⟩⟩, hF⟩ (Nat.le_of_ble_eq_true rfl) (Nat.le_of_ble_eq_true rfl) dJ2_init_11
set_option maxHeartbeats 2000000 in
set_option maxRecDepth 100000 in
theorem met_J10_newLength (l : Launch) (K : gK) (G : gT) (a b d : Nat) (h1 : b < 1000000000) (h2 : d < 1000000000) (h3 : 0 < a) (h4 : a < 1000000000)  : gMet l K yJ10_newLength cJ10_newLength 4 (some .int) 1 40 0 0 [.int (nI (a)), .int (nI (b)), .int (nI (d))] G (fun w G1 => w = some (.int (nI (a + if b < d then d else b))) ∧ G1 = G) := by
  refine gMet.of (by decide) (Nat.le_of_ble_eq_true rfl) (fun p e s m below meth c ls hx0 hb X hr hin hG hS hl => ?_)
  have hexec := hx0
  have X : gC K p s m _ meth c cJ10_newLength 4 "jdk/internal/util/ArraysSupport" := X
  have hl : lv_has ls 4 [(0, .int (nI (a))), (1, .int (nI (b))), (2, .int (nI (d)))] := hl
  have hbd : (if b < d then d else b) < 1000000000 := by split <;> assumption
  have hF : gF (fun _ => True) G G := gF.rf
  refine lv_iload_n hexec hb dJ10_newLength_0 rfl (lv_at hl 0 rfl) ?_
  refine lv_iload_n hexec hb dJ10_newLength_1 rfl (lv_at hl 1 rfl) ?_
  refine lv_iload_n hexec hb dJ10_newLength_2 rfl (lv_at hl 2 rfl) ?_
  refine va_mmax hexec hb (X.1.2.2.1.trans hl.1.symm) X.1.2.2.2.1 (X.1.2.2.2.2 _ q239) (X.1.2.2.2.2 _ q240) (X.1.2.2.2.2 _ q52) (X.1.2.2.2.2 _ q241) (Nat.le_of_ble_eq_true rfl) (Nat.le_of_ble_eq_true rfl) (Nat.le_of_ble_eq_true rfl) (Nat.le_of_ble_eq_true rfl) dJ10_newLength_3 ?_
  refine g_topE (z := nI (if b < d then d else b)) (n_max rfl rfl (by omega) (by omega)) ?_
  refine lv_iadd hexec hb dJ10_newLength_6 ?_
  refine g_topN (n_add (a := a) (b := if b < d then d else b) rfl rfl) ?_
  refine lv_istore_n (lv' := [(3, .int (nI (a + (if b < d then d else b)))), (0, .int (nI (a))), (1, .int (nI (b))), (2, .int (nI (d)))]) hexec hb dJ10_newLength_7 rfl hl (by decide) rfl (fun ls hl => ?_)
  refine lv_iconst (v := 0) hexec hb dJ10_newLength_8 (by decide) ?_
  refine lv_iload_n hexec hb dJ10_newLength_9 rfl (lv_at hl 0 rfl) ?_
  refine g_icmp_ge hexec hb 21 dJ10_newLength_10 (by decide) (a := 0) (b := a + (if b < d then d else b)) rfl rfl (by decide) (by omega) (fun c_10 => ?_) (fun c_10 => ?_)
  · skip
    exact absurd c_10 (by omega)
  · skip
    refine lv_iload_n hexec hb dJ10_newLength_13 rfl (lv_at hl 0 rfl) ?_
    refine lv_ldc (v := 2147483639) hexec hb X.1.2.2.2.1 (X.1.2.2.2.2 _ q242) dJ10_newLength_14 ?_
    refine g_icmp_gt hexec hb 21 dJ10_newLength_16 (by decide) (a := a + (if b < d then d else b)) (b := 2147483639) rfl rfl (by omega) (by decide) (fun c_16 => ?_) (fun c_16 => ?_)
    · skip
      exact absurd c_16 (by omega)
    · skip
      refine lv_iload_n hexec hb dJ10_newLength_19 rfl (lv_at hl 0 rfl) ?_
      exact g_iret X hr hG hS ⟨rfl, rfl⟩ (Nat.le_of_ble_eq_true rfl) (Nat.le_of_ble_eq_true rfl) dJ10_newLength_20
