/-! lists and boxes (printed by gen/jdk1.py) -/
set_option maxRecDepth 100000
theorem gp_J0_init : gPar yJ0_init 0 := ⟨⟨by decide, by decide⟩, by decide +kernel⟩
theorem gp_J10_newLength : gPar yJ10_newLength 3 := ⟨⟨by decide, by decide⟩, by decide +kernel⟩
theorem gp_J12_copyOf : gPar yJ12_copyOf 2 := ⟨⟨by decide, by decide⟩, by decide +kernel⟩
theorem gp_J12_copyOf_2 : gPar yJ12_copyOf_2 3 := ⟨⟨by decide, by decide⟩, by decide +kernel⟩
theorem gp_J1_init : gPar yJ1_init 0 := ⟨⟨by decide, by decide⟩, by decide +kernel⟩
theorem gp_J2_add_2 : gPar yJ2_add_2 3 := ⟨⟨by decide, by decide⟩, by decide +kernel⟩
theorem gp_J2_grow : gPar yJ2_grow 0 := ⟨⟨by decide, by decide⟩, by decide +kernel⟩
theorem gp_J2_grow_2 : gPar yJ2_grow_2 1 := ⟨⟨by decide, by decide⟩, by decide +kernel⟩
theorem g_ne_k {G : gT} {a b t u ci : Nat} {x : ClassId × vp_A} {fs : List Value} (ha : G a = some (t, .inl x)) (hb : G b = some (u, .inr (ci, fs))) : a ≠ b := fun q => by rw [q, hb] at ha; cases ha
theorem gF.keep {τ u a : Nat} {e : va_E} {G G1 : gT} (h : gF (fun t => t = τ) G G1) (ha : G a = some (u, e)) (hu : u ≠ τ) : G1 a = some (u, e) := h.1 a u e ha hu
theorem n_shr1 {x : Int32} {n : Nat} (h : x = nI n) (hn : n < 1073741824) : x >>> (1 &&& 31) = nI (n / 2) := by
  subst h
  have hs : (((1 : Int32) &&& 31).toBitVec.smod 32).toNat = 1 := by decide
  apply Int32.toInt_inj.mp
  rw [← Int32.toInt_toBitVec, Int32.toBitVec_shiftRight, BitVec.toInt_sshiftRight', hs, Int32.toInt_toBitVec, nI_toInt (by omega), nI_toInt (by omega)]
  rw [Int.shiftRight_eq_div_pow]
  omega
theorem n_max {x y : Int32} {a b : Nat} (hx : x = nI a) (hy : y = nI b) (ha : a < 2147483648) (hb : b < 2147483648) : (if x < y then y else x) = nI (if a < b then b else a) := by
  by_cases h : a < b
  · rw [if_pos h, if_pos ((n_lt hx hy ha hb).mpr h), hy]
  · rw [if_neg h, if_neg (fun q => h ((n_lt hx hy ha hb).mp q)), hx]
theorem n_min {x y : Int32} {a b : Nat} (hx : x = nI a) (hy : y = nI b) (ha : a < 2147483648) (hb : b < 2147483648) : (if y < x then y else x) = nI (if b < a then b else a) := by
  by_cases h : b < a
  · rw [if_pos h, if_pos ((n_lt hy hx hb ha).mpr h), hy]
  · rw [if_neg h, if_neg (fun q => h ((n_lt hy hx hb ha).mp q)), hx]
/-- what a list may hold -/
def gElt (K : gK) (G : gT) (x : Nat) : Prop := ∃ C : String, gObj K G C x ∧ (C, "java/lang/Object") ∈ gcast
theorem gElt.fr {K : gK} {G G1 : gT} {S : Nat → Prop} {x : Nat} (h : gElt K G x) (hF : gF S G G1) : gElt K G1 x := by
  obtain ⟨C, h1, h2⟩ := h
  exact ⟨C, h1.fr hF, h2⟩
abbrev rowC (K : gK) (n : Nat) (f : Nat → Option Nat) : va_E := .inl (kA K 3, n, .inr (.inr (.inr (.inr f))))
abbrev alO (md : Int32) (ar n : Nat) : va_E := .inr (8, [.int md, .ref ar, .int (nI n)])
/-- a list: its row -/
def isALr (K : gK) (G : gT) (τ al : Nat) (xs : List Nat) (md : Int32) (ar : Nat) : Prop := G al = some (τ, alO md ar xs.length) ∧ (∀ x ∈ xs, gElt K G x) ∧ ((ar = kE K ∧ xs = []) ∨ ∃ (cap : Nat) (f : Nat → Option Nat), G ar = some (τ, rowC K cap f) ∧ 10 ≤ cap ∧ xs.length ≤ cap ∧ cap < 1000000 ∧ ∀ i, i < xs.length → f i = xs[i]?)
def isAL (K : gK) (G : gT) (τ al : Nat) (xs : List Nat) : Prop := ∃ (md : Int32) (ar : Nat), isALr K G τ al xs md ar
theorem isAL.fr {K : gK} {G G1 : gT} {S : Nat → Prop} {τ al : Nat} {xs : List Nat} (h : isAL K G τ al xs) (hF : gF S G G1) (hS : ¬ S τ) : isAL K G1 τ al xs := by
  obtain ⟨md, ar, h1, h2, h3⟩ := h
  refine ⟨md, ar, hF.1 _ _ _ h1 hS, fun x hx => (h2 x hx).fr hF, ?_⟩
  rcases h3 with h3 | ⟨cap, f, h4, h5⟩
  · exact Or.inl h3
  · exact Or.inr ⟨cap, f, hF.1 _ _ _ h4 hS, h5⟩
theorem isAL.fr1 {K : gK} {G G1 : gT} {u τ al : Nat} {xs : List Nat} (h : isAL K G τ al xs) (hF : gF (fun t => t = u) G G1) (hS : τ ≠ u) : isAL K G1 τ al xs := h.fr hF hS
theorem isAL.ext {K : gK} {G G1 : gT} {τ al : Nat} {xs : List Nat} (h : isAL K G τ al xs) (hF : gExt G G1) : isAL K G1 τ al xs := h.fr (S := fun _ => False) hF.gF (fun q => q)
theorem gExt.rf {G : gT} : gExt G G := fun _ _ _ h => h
theorem gExt.trans {G G1 G2 : gT} (h : gExt G G1) (h1 : gExt G1 G2) : gExt G G2 := fun b t e hb => h1 b t e (h b t e hb)
theorem gExt.put {G0 G G1 : gT} {a : Nat} (h : gExt G0 G) (ha : G0 a = none) (hu : ∀ b, b ≠ a → G1 b = G b) : gExt G0 G1 := fun b t e hb => by
  rw [hu b (fun q => by rw [q, ha] at hb; cases hb)]
  exact h b t e hb
theorem gElt.ext {K : gK} {G G1 : gT} {x : Nat} (h : gElt K G x) (hF : gExt G G1) : gElt K G1 x := h.fr (S := fun _ => False) hF.gF
theorem isAL_push {K : gK} {G : gT} {τ al ar cap x : Nat} {md : Int32} {xs : List Nat} {f : Nat → Option Nat} (hal : G al = some (τ, alO md ar (xs.length + 1))) (har : G ar = some (τ, rowC K cap (va_up f xs.length (some x)))) (hf : ∀ i, i < xs.length → f i = xs[i]?) (h10 : 10 ≤ cap) (hlt : xs.length < cap) (hc : cap < 1000000) (hxs : ∀ y ∈ xs, gElt K G y) (hx : gElt K G x) : isAL K G τ al (xs ++ [x]) := by
  refine ⟨md, ar, by rw [List.length_append]; exact hal, fun y hy => ?_, Or.inr ⟨cap, _, har, h10, by rw [List.length_append]; simp; omega, hc, fun i hi => ?_⟩⟩
  · rcases List.mem_append.mp hy with h | h
    · exact hxs y h
    · rw [List.mem_singleton.mp h]; exact hx
  · rw [List.length_append] at hi
    simp at hi
    by_cases h : i = xs.length
    · subst h
      rw [va_up_self]
      simp
    · rw [va_up_ne _ _ h, hf i (by omega), List.getElem?_append_left (by omega)]
section GC
variable {p : Program} {l : Launch} {e : Env} {R : Room} {s : State} {m : MethodId} {args : Array Value} {below : List Frame} {meth : Method} {c : Code} {H : Heap} {locs : List Loc} {cells slots : Nat} {Q : State → Prop}
variable {cc : ByteArray} {pc : Nat} {ls : Array Slot} {rest : List Value} {K : gK} {own : String} {nL : Nat} {G : gT}
theorem g_getC (X : gC K p s m args meth c cc nL own) (hG : gH K G H) (hl : ls.size = nL) {index : Nat} (hlink : Cond.methodLink own index ⟨"java/lang/Object", "getClass", "()Ljava/lang/Class;"⟩ ∈ lw_all) (hsel : Cond.selects "[Ljava/lang/Object;" ⟨"java/lang/Object", "getClass", "()Ljava/lang/Class;"⟩ ⟨"java/lang/Object", "getClass", "()Ljava/lang/Class;"⟩ ∈ lw_all) (hinst : Cond.instanceMethod ⟨"java/lang/Object", "getClass", "()Ljava/lang/Class;"⟩ ∈ lw_all) (hnat : Cond.native ⟨"java/lang/Object", "getClass", "()Ljava/lang/Class;"⟩ ∈ lw_all)
    {a t : Nat} {x : vp_A} (h : G a = some (t, .inl (kA K 3, x))) (hframes : 1 ≤ R.frames) (hlocals : (rest.map fun v => v.category).sum + 14 ≤ R.locals) (hdg : decode cc pc = .ok (.invokevirtual index, 3))
    (kk : W p l e R s m args below meth c H locs cells slots Q (F0 m (pc + 3) ls (.ref (kM K) :: rest))) : W p l e R s m args below meth c H locs cells slots Q (F0 m pc ls (.ref a :: rest)) :=
  va_getC X.1.1 X.1.2.1 (X.1.2.2.1.trans hl.symm) X.1.2.2.2.1 (X.1.2.2.2.2 _ hlink) (va_Nw.use rfl (X.2.1.2.2.2.1.2.1 _ (by decide))) (X.1.2.2.2.2 _ hsel) (X.1.2.2.2.2 _ hinst) (X.1.2.2.2.2 _ hnat) X.2.1.2.2.2.2.1 (g_oRow X hG h) hframes hlocals hdg kk
theorem gElt.any (X : gC K p s m args meth c cc nL own) (hG : gH K G H) (hS : va_S (gA K) s.heap H locs) {v : Nat} (h : gElt K G v) : va_Any "java/lang/Object" s H v := by
  obtain ⟨C, h1, h2⟩ := h
  exact gAny X hG hS h1 (Or.inr h2)
end GC
set_option maxHeartbeats 2000000 in
set_option maxRecDepth 100000 in
theorem met_J0_init (l : Launch) (K : gK) (G : gT) (a : Nat)  : gMet l K yJ0_init cJ0_init 1 (none) 1 40 0 0 [.ref (a)] G (fun w G1 => w = none ∧ G1 = G) := by
  refine gMet.of (by decide) (Nat.le_of_ble_eq_true rfl) (fun p e s m below meth c ls hx0 hb X hr hin hG hS hl => ?_)
  have hexec := hx0
  have X : gC K p s m _ meth c cJ0_init 1 "java/util/AbstractCollection" := X
  have hl : lv_has ls 1 [(0, .ref (a))] := hl
  have hF : gF (fun _ => True) G G := gF.rf
  refine lv_aload_n hexec hb dJ0_init_0 rfl (lv_at hl 0 rfl) ?_
  refine W.objInit hexec hb X.1.2.2.2.1 (X.1.2.2.2.2 _ q97) (X.1.2.2.2.2 _ q83) (X.1.2.2.2.2 _ q84) rfl (X.1.2.2.1.trans hl.1.symm).symm rfl dJ0_init_1 (Nat.le_of_ble_eq_true rfl) (Nat.le_of_ble_eq_true rfl) ?_
  exact g_vret X hr hG hS ⟨rfl, rfl⟩ (Nat.le_of_ble_eq_true rfl) (Nat.le_of_ble_eq_true rfl) dJ0_init_4
set_option maxHeartbeats 2000000 in
set_option maxRecDepth 100000 in
theorem met_J8_init (l : Launch) (K : gK) (G : gT) (a : Nat)  : gMet l K yJ8_init cJ8_init 1 (none) 1 40 0 0 [.ref (a)] G (fun w G1 => w = none ∧ G1 = G) := by
  refine gMet.of (by decide) (Nat.le_of_ble_eq_true rfl) (fun p e s m below meth c ls hx0 hb X hr hin hG hS hl => ?_)
  have hexec := hx0
  have X : gC K p s m _ meth c cJ8_init 1 "java/lang/Number" := X
  have hl : lv_has ls 1 [(0, .ref (a))] := hl
  have hF : gF (fun _ => True) G G := gF.rf
  refine lv_aload_n hexec hb dJ8_init_0 rfl (lv_at hl 0 rfl) ?_
  refine W.objInit hexec hb X.1.2.2.2.1 (X.1.2.2.2.2 _ q215) (X.1.2.2.2.2 _ q83) (X.1.2.2.2.2 _ q84) rfl (X.1.2.2.1.trans hl.1.symm).symm rfl dJ8_init_1 (Nat.le_of_ble_eq_true rfl) (Nat.le_of_ble_eq_true rfl) ?_
  exact g_vret X hr hG hS ⟨rfl, rfl⟩ (Nat.le_of_ble_eq_true rfl) (Nat.le_of_ble_eq_true rfl) dJ8_init_4
set_option maxHeartbeats 2000000 in
set_option maxRecDepth 100000 in
theorem met_J1_init (l : Launch) (K : gK) (G : gT) (τ al : Nat) (hal : G al = some (τ, .inr (8, [.int 0, .null, .int 0])))  : gMet l K yJ1_init cJ1_init 1 (none) 2 76 0 0 [.ref (al)] G (fun w G1 => w = none ∧ G1 al = some (τ, .inr (8, [.int 0, .null, .int 0])) ∧ gF (fun t => t = τ) G G1) := by
  refine gMet.of (by decide) (Nat.le_of_ble_eq_true rfl) (fun p e s m below meth c ls hx0 hb X hr hin hG hS hl => ?_)
  have hexec := hx0
  have X : gC K p s m _ meth c cJ1_init 1 "java/util/AbstractList" := X
  have hl : lv_has ls 1 [(0, .ref (al))] := hl
  have hF : gF (fun t => t = τ) G G := gF.rf
  refine lv_aload_n hexec hb dJ1_init_0 rfl (lv_at hl 0 rfl) ?_
  refine g_callI X (met_J0_init l K G al) gp_J0_init rfl rfl q94 q95 q39 q96 hG hS hl ⟨Nat.le_of_ble_eq_true rfl, Nat.le_of_ble_eq_true rfl⟩ ⟨(Nat.le_of_ble_eq_true rfl), (Nat.le_of_ble_eq_true rfl)⟩ (rest := []) (Nat.le_of_ble_eq_true rfl) rfl dJ1_init_1 (fun w G_1 H locs hp hG hS => ?_)
  obtain ⟨rfl, hge⟩ := hp
  rw [hge] at hG
  clear hge
  refine W.eq (g2 := F0 m 4 ls []) rfl ?_
  refine lv_aload_n hexec hb dJ1_init_4 rfl (lv_at hl 0 rfl) ?_
  refine lv_iconst (v := 0) hexec hb dJ1_init_5 (by decide) ?_
  refine g_put X hG hS hal (ci := 8) rfl in_J2 tyJ2 tyJ2_ok nmJ2 0 (by decide) q102 (fun _ h => h) rfl rfl rfl (fs1 := [.int (0), .null, .int (0)]) (Nat.le_of_ble_eq_true rfl) rfl dJ1_init_6 (fun H locs hG hS => ?_)
  obtain ⟨G_3, hG, hx, hu, h_new⟩ : ∃ G1, gH K G1 H ∧ gF (fun t => t = τ) G G1 ∧ (∀ b, b ≠ al → G1 b = G b) ∧ G1 al = some (τ, .inr (8, [.int (0), .null, .int (0)])) := ⟨_, hG, gF.putO hal rfl, fun b hb => gU_ne hb, gU_self⟩
  have hF := hF.trans (hx.mono (fun t h => h))
  have hal := h_new
  clear h_new
  exact g_vret X hr hG hS ⟨rfl, hal, hF⟩ (Nat.le_of_ble_eq_true rfl) (Nat.le_of_ble_eq_true rfl) dJ1_init_9
set_option maxHeartbeats 2000000 in
set_option maxRecDepth 100000 in
theorem met_J2_init (l : Launch) (K : gK) (G : gT) (τ al : Nat) (hal : G al = some (τ, .inr (8, [.int 0, .null, .int 0])))  : gMet l K yJ2_init cJ2_init 1 (none) 3 112 0 0 [.ref (al)] G (fun w G1 => w = none ∧ isAL K G1 τ al [] ∧ gF (fun t => t = τ) G G1) := by
  refine gMet.of (by decide) (Nat.le_of_ble_eq_true rfl) (fun p e s m below meth c ls hx0 hb X hr hin hG hS hl => ?_)
  have hexec := hx0
  have X : gC K p s m _ meth c cJ2_init 1 "java/util/ArrayList" := X
  have hl : lv_has ls 1 [(0, .ref (al))] := hl
  have hF : gF (fun t => t = τ) G G := gF.rf
  refine lv_aload_n hexec hb dJ2_init_0 rfl (lv_at hl 0 rfl) ?_
  refine g_callI X (met_J1_init l K G τ al hal) gp_J1_init rfl rfl q91 q92 q40 q93 hG hS hl ⟨Nat.le_of_ble_eq_true rfl, Nat.le_of_ble_eq_true rfl⟩ ⟨(Nat.le_of_ble_eq_true rfl), (Nat.le_of_ble_eq_true rfl)⟩ (rest := []) (Nat.le_of_ble_eq_true rfl) rfl dJ2_init_1 (fun w G_1 H locs hp hG hS => ?_)
  obtain ⟨rfl, h_hal, hx⟩ := hp
  have hF := hF.trans (hx.mono (fun t h => h))
  have hal := h_hal
  refine W.eq (g2 := F0 m 4 ls []) rfl ?_
  refine lv_aload_n hexec hb dJ2_init_4 rfl (lv_at hl 0 rfl) ?_
  refine g_gets X hS X.2.1.2.2.1.1 q98 (fun _ h => h) dJ2_init_5 ?_
  refine g_put X hG hS hal (ci := 8) rfl in_J2 tyJ2 tyJ2_ok nmJ2 1 (by decide) q100 (fun _ h => h) rfl rfl rfl (fs1 := [.int (0), .ref (kE K), .int (0)]) (Nat.le_of_ble_eq_true rfl) rfl dJ2_init_8 (fun H locs hG hS => ?_)
  obtain ⟨G_3, hG, hx, hu, h_new⟩ : ∃ G1, gH K G1 H ∧ gF (fun t => t = τ) G_1 G1 ∧ (∀ b, b ≠ al → G1 b = G_1 b) ∧ G1 al = some (τ, .inr (8, [.int (0), .ref (kE K), .int (0)])) := ⟨_, hG, gF.putO hal rfl, fun b hb => gU_ne hb, gU_self⟩
  have hF := hF.trans (hx.mono (fun t h => h))
  have hal := h_new
  clear h_new
  exact g_vret X hr hG hS ⟨rfl, ⟨0, kE K, hal, fun x hx => absurd hx (by simp), Or.inl ⟨rfl, rfl⟩⟩, hF⟩ (Nat.le_of_ble_eq_true rfl) (Nat.le_of_ble_eq_true rfl) dJ2_init_11
set_option maxHeartbeats 2000000 in
set_option maxRecDepth 100000 in
theorem met_J10_newLength (l : Launch) (K : gK) (G : gT) (a b d : Nat) (h1 : b < 1000000000) (h2 : d < 1000000000) (h3 : 0 < a) (h4 : a < 1000000000)  : gMet l K yJ10_newLength cJ10_newLength 4 (some .int) 1 40 0 0 [.int (nI (a)), .int (nI (b)), .int (nI (d))] G (fun w G1 => w = some (.int (nI (a + if b < d then d else b))) ∧ G1 = G) := by
  refine gMet.of (by decide) (Nat.le_of_ble_eq_true rfl) (fun p e s m below meth c ls hx0 hb X hr hin hG hS hl => ?_)
  have hexec := hx0
  have X : gC K p s m _ meth c cJ10_newLength 4 "jdk/internal/util/ArraysSupport" := X
  have hl : lv_has ls 4 [(0, .int (nI (a))), (1, .int (nI (b))), (2, .int (nI (d)))] := hl
  have hbd : (if b < d then d else b) < 1000000000 := by split <;> assumption
  have hF : gF (fun _ => True) G G := gF.rf
  refine lv_iload_n hexec hb dJ10_newLength_0 rfl (lv_at hl 0 rfl) ?_
  refine lv_iload_n hexec hb dJ10_newLength_1 rfl (lv_at hl 1 rfl) ?_
  refine lv_iload_n hexec hb dJ10_newLength_2 rfl (lv_at hl 2 rfl) ?_
  refine va_mmax hexec hb (X.1.2.2.1.trans hl.1.symm) X.1.2.2.2.1 (X.1.2.2.2.2 _ q239) (X.1.2.2.2.2 _ q240) (X.1.2.2.2.2 _ q52) (X.1.2.2.2.2 _ q241) (Nat.le_of_ble_eq_true rfl) (Nat.le_of_ble_eq_true rfl) (Nat.le_of_ble_eq_true rfl) (Nat.le_of_ble_eq_true rfl) dJ10_newLength_3 ?_
  refine g_topE (z := nI (if b < d then d else b)) (n_max rfl rfl (by omega) (by omega)) ?_
  refine lv_iadd hexec hb dJ10_newLength_6 ?_
  refine g_topN (n_add (a := a) (b := if b < d then d else b) rfl rfl) ?_
  refine lv_istore_n (lv' := [(3, .int (nI (a + (if b < d then d else b)))), (0, .int (nI (a))), (1, .int (nI (b))), (2, .int (nI (d)))]) hexec hb dJ10_newLength_7 rfl hl (by decide) rfl (fun ls hl => ?_)
  refine lv_iconst (v := 0) hexec hb dJ10_newLength_8 (by decide) ?_
  refine lv_iload_n hexec hb dJ10_newLength_9 rfl (lv_at hl 0 rfl) ?_
  refine g_icmp_ge hexec hb 21 dJ10_newLength_10 (by decide) (a := 0) (b := a + (if b < d then d else b)) rfl rfl (by decide) (by omega) (fun c_10 => ?_) (fun c_10 => ?_)
  · skip
    exact absurd c_10 (by omega)
  · skip
    refine lv_iload_n hexec hb dJ10_newLength_13 rfl (lv_at hl 0 rfl) ?_
    refine lv_ldc (v := 2147483639) hexec hb X.1.2.2.2.1 (X.1.2.2.2.2 _ q242) dJ10_newLength_14 ?_
    refine g_icmp_gt hexec hb 21 dJ10_newLength_16 (by decide) (a := a + (if b < d then d else b)) (b := 2147483639) rfl rfl (by omega) (by decide) (fun c_16 => ?_) (fun c_16 => ?_)
    · skip
      exact absurd c_16 (by omega)
    · skip
      refine lv_iload_n hexec hb dJ10_newLength_19 rfl (lv_at hl 0 rfl) ?_
      exact g_iret X hr hG hS ⟨rfl, rfl⟩ (Nat.le_of_ble_eq_true rfl) (Nat.le_of_ble_eq_true rfl) dJ10_newLength_20
set_option maxHeartbeats 2000000 in
set_option maxRecDepth 100000 in
theorem met_J12_copyOf_2 (l : Launch) (K : gK) (G : gT) (τ ar cap nn : Nat) (f : Nat → Option Nat) (har : G ar = some (τ, rowC K cap f)) (hel : ∀ i, i < cap → ∀ v, f i = some v → gElt K G v) (hc : cap < 1000000) (hn : nn < 2000000)  : gMet l K yJ12_copyOf_2 cJ12_copyOf_2 4 (some (.array (.object "java/lang/Object"))) 1 60 1 nn [.ref (ar), .int (nI (nn)), .ref (kM K)] G (fun w G1 => ∃ q, w = some (.ref q) ∧ G q = none ∧ gExt G G1 ∧ G1 q = some (τ, rowC K nn (va_cpy f (fun _ => none) 0 0 (if nn < cap then nn else cap)))) := by
  refine gMet.of (by decide) (Nat.le_of_ble_eq_true rfl) (fun p e s m below meth c ls hx0 hb X hr hin hG hS hl => ?_)
  have hexec := hx0
  have X : gC K p s m _ meth c cJ12_copyOf_2 4 "java/util/Arrays" := X
  have hl : lv_has ls 4 [(0, .ref (ar)), (1, .int (nI (nn))), (2, .ref (kM K))] := hl
  have hE : gExt G G := gExt.rf
  have hF : gF (fun _ => True) G G := gF.rf
  refine lv_aload_n hexec hb dJ12_copyOf_2_0 rfl (lv_at hl 2 rfl) ?_
  refine g_ldcM X q276 dJ12_copyOf_2_1 ?_
  refine lv_acmp_ne (rx := some (kM K)) (ry := some (kM K)) (tgt := 13) hexec hb dJ12_copyOf_2_3 (by decide) (fun c_3 => ?_) (fun c_3 => ?_)
  · skip
    exact absurd rfl c_3
  · skip
    refine lv_iload_n hexec hb dJ12_copyOf_2_6 rfl (lv_at hl 1 rfl) ?_
    refine g_newq X hG hS 3 rfl q278 X.2.1.2.2.2.1.2.2.2.2.2.2.1 (N := nn) rfl (by omega) (τ) (by dsimp only; omega) (by dsimp only; omega) dJ12_copyOf_2_7 (fun n1 H hq hn1A hG hS => ?_)
    have ne_har_n1 := g_ne_n har hq
    obtain ⟨G_1, hG, hx, hn1, hn1O⟩ : ∃ G1, gH K G1 H ∧ gExt G G1 ∧ G1 n1 = some (τ, .inl (kA K 3, nn, .inr (.inr (.inr (.inr (fun _ => none)))))) ∧ G1 = gU G n1 (τ) (.inl (kA K 3, nn, .inr (.inr (.inr (.inr (fun _ => none)))))) := ⟨_, hG, gExt.new hq, gU_self, rfl⟩
    have hF := hF.trans hx.gF
    have hE := hE.trans hx
    have har := hx _ _ _ har
    refine lv_goto (tgt := 24) hexec hb dJ12_copyOf_2_10 (by decide) ?_
    refine lv_astore_n (lv' := [(3, .ref (n1)), (0, .ref (ar)), (1, .int (nI (nn))), (2, .ref (kM K))]) hexec hb dJ12_copyOf_2_24 rfl hl (by decide) rfl (fun ls hl => ?_)
    refine lv_aload_n hexec hb dJ12_copyOf_2_25 rfl (lv_at hl 1 rfl) ?_
    refine lv_iconst (v := 0) hexec hb dJ12_copyOf_2_26 (by decide) ?_
    refine lv_aload_n hexec hb dJ12_copyOf_2_27 rfl (lv_at hl 0 rfl) ?_
    refine lv_iconst (v := 0) hexec hb dJ12_copyOf_2_28 (by decide) ?_
    refine lv_aload_n hexec hb dJ12_copyOf_2_29 rfl (lv_at hl 1 rfl) ?_
    refine g_alen X hG 3 rfl har rfl dJ12_copyOf_2_30 ?_
    refine lv_iload_n hexec hb dJ12_copyOf_2_31 rfl (lv_at hl 2 rfl) ?_
    refine va_mmin hexec hb (X.1.2.2.1.trans hl.1.symm) X.1.2.2.2.1 (X.1.2.2.2.2 _ q279) (X.1.2.2.2.2 _ q280) (X.1.2.2.2.2 _ q52) (X.1.2.2.2.2 _ q281) (Nat.le_of_ble_eq_true rfl) (Nat.le_of_ble_eq_true rfl) (by dsimp only; omega) (by dsimp only; omega) dJ12_copyOf_2_32 ?_
    refine g_topE (z := nI (if nn < cap then nn else cap)) (n_min rfl rfl (by omega) (by omega)) ?_
    refine g_copy X hG hS hl.1 q282 q284 q283 q54 har hn1 (x := 0) (y := 0) (z := if nn < cap then nn else cap) rfl rfl rfl (by omega) (by omega) (by split <;> omega) (by split <;> omega) (by split <;> omega) (fun i hi v hv => ((hel i (by split at hi <;> omega) v (by simpa using hv)).ext hE).any X hG hS) (Nat.le_of_ble_eq_true rfl) (Nat.le_of_ble_eq_true rfl) dJ12_copyOf_2_35 (fun H locs hG hS => ?_)
    obtain ⟨G_2, hG, hx, hu, h_new, h_har⟩ : ∃ G1, gH K G1 H ∧ gF (fun t => t = τ) G_1 G1 ∧ (∀ b, b ≠ n1 → G1 b = G_1 b) ∧ G1 n1 = some (τ, rowC K nn (va_cpy f (fun _ => none) 0 0 (if nn < cap then nn else cap))) ∧ G1 ar = some (τ, rowC K cap f) := ⟨_, hG, gF.putA hn1 rfl, fun b hb => gU_ne hb, gU_self, (gU_ne ne_har_n1).trans har⟩
    have hF := hF.trans (hx.mono (fun t h => trivial))
    have hE := hE.put hq hu
    have hn1 := h_new
    have har := h_har
    clear h_new h_har
    refine lv_aload_n hexec hb dJ12_copyOf_2_38 rfl (lv_at hl 0 rfl) ?_
    exact g_aret X hr (Or.inr ⟨_, rfl⟩) hG hS (Or.inr ⟨_, rfl⟩) ⟨n1, rfl, hq, hE, hn1⟩ (by omega) (by omega) dJ12_copyOf_2_39
set_option maxHeartbeats 2000000 in
set_option maxRecDepth 100000 in
theorem met_J12_copyOf (l : Launch) (K : gK) (G : gT) (τ ar cap nn : Nat) (f : Nat → Option Nat) (har : G ar = some (τ, rowC K cap f)) (hel : ∀ i, i < cap → ∀ v, f i = some v → gElt K G v) (hc : cap < 1000000) (hn : nn < 2000000)  : gMet l K yJ12_copyOf cJ12_copyOf 2 (some (.array (.object "java/lang/Object"))) 2 99 1 nn [.ref (ar), .int (nI (nn))] G (fun w G1 => ∃ q, w = some (.ref q) ∧ G q = none ∧ gExt G G1 ∧ G1 q = some (τ, rowC K nn (va_cpy f (fun _ => none) 0 0 (if nn < cap then nn else cap)))) := by
  refine gMet.of (by decide) (Nat.le_of_ble_eq_true rfl) (fun p e s m below meth c ls hx0 hb X hr hin hG hS hl => ?_)
  have hexec := hx0
  have X : gC K p s m _ meth c cJ12_copyOf 2 "java/util/Arrays" := X
  have hl : lv_has ls 2 [(0, .ref (ar)), (1, .int (nI (nn)))] := hl
  have hE : gExt G G := gExt.rf
  have hF : gF (fun _ => True) G G := gF.rf
  refine lv_aload_n hexec hb dJ12_copyOf_0 rfl (lv_at hl 0 rfl) ?_
  refine lv_iload_n hexec hb dJ12_copyOf_1 rfl (lv_at hl 1 rfl) ?_
  refine lv_aload_n hexec hb dJ12_copyOf_2 rfl (lv_at hl 0 rfl) ?_
  refine g_getC X hG hl.1 q249 q1706 q250 q272 har (Nat.le_of_ble_eq_true rfl) (Nat.le_of_ble_eq_true rfl) dJ12_copyOf_3 ?_
  refine g_callS X (met_J12_copyOf_2 l K G τ ar cap (nn) f har hel hc hn) gp_J12_copyOf_2 rfl q273 q274 q53 q275 hG hS hl ⟨Nat.le_of_ble_eq_true rfl, Nat.le_of_ble_eq_true rfl⟩ ⟨(by dsimp only; omega), (by dsimp only; omega)⟩ (rest := []) (Nat.le_of_ble_eq_true rfl) rfl dJ12_copyOf_6 (fun w G_1 H locs hp hG hS => ?_)
  obtain ⟨n1, rfl, hq, hx, hn1⟩ := hp
  have ne_har_n1 := g_ne_n har hq
  have hF := hF.trans hx.gF
  have hE := hE.trans hx
  have har := hx _ _ _ har
  refine W.eq (g2 := F0 m 9 ls [.ref (n1)]) rfl ?_
  exact g_aret X hr (Or.inr ⟨_, rfl⟩) hG hS (Or.inr ⟨_, rfl⟩) ⟨n1, rfl, hq, hE, hn1⟩ (by omega) (by omega) dJ12_copyOf_9
section VL
variable {p : Program} {l : Launch} {e : Env} {R : Room} {s : State} {m : MethodId} {args : Array Value} {below : List Frame} {meth : Method} {c : Code} {H : Heap} {locs : List Loc} {cells slots : Nat} {Q : State → Prop}
variable {cc : ByteArray} {pc : Nat} {ls : Array Slot} {rest : List Value} {K : gK} {own : String} {nL : Nat} {G : gT}
theorem vb_len0 (X : gC K p s m args meth c cc nL own) (hS : va_S (gA K) s.heap H locs) (hdg : decode cc pc = .ok (.arraylength, 1))
    (kk : W p l e R s m args below meth c H locs cells slots Q (F0 m (pc + 1) ls (.int 0 :: rest))) : W p l e R s m args below meth c H locs cells slots Q (F0 m pc ls (.ref (kE K) :: rest)) := by
  obtain ⟨cl0, h1, h2, h3, h4, h5, h6, h7⟩ := X.2.1.2.2.1.2.1
  exact W.alen (n := 0) X.1.1 X.1.2.1 (by rw [hS.2.1 _ (Array.getElem?_eq_some_iff.mp h1).1 h7]; exact h1) h2 h5 rfl rfl hdg kk
end VL
set_option maxHeartbeats 2000000 in
set_option maxRecDepth 100000 in
theorem met_J2_grow_2E (l : Launch) (K : gK) (G : gT) (τ al n : Nat) (md : Int32) (hal : G al = some (τ, alO md (kE K) n))  : gMet l K yJ2_grow_2 cJ2_grow_2 4 (some (.array (.object "java/lang/Object"))) 5 250 1 10 [.ref (al), .int (1)] G (fun w G1 => ∃ q, w = some (.ref q) ∧ G1 q = some (τ, rowC K (10) (fun _ => none)) ∧ G1 al = some (τ, alO md q n) ∧ gF (fun t => t = τ) G G1) := by
  refine gMet.of (by decide) (Nat.le_of_ble_eq_true rfl) (fun p e s m below meth c ls hx0 hb X hr hin hG hS hl => ?_)
  have hexec := hx0
  have X : gC K p s m _ meth c cJ2_grow_2 4 "java/util/ArrayList" := X
  have hl : lv_has ls 4 [(0, .ref (al)), (1, .int (1))] := hl
  have hF : gF (fun t => t = τ) G G := gF.rf
  refine lv_aload_n hexec hb dJ2_grow_2_0 rfl (lv_at hl 0 rfl) ?_
  refine g_get X hG hal (ci := 8) rfl in_J2 1 (by decide) q100 (fun _ h => h) rfl dJ2_grow_2_1 ?_
  refine vb_len0 X hS dJ2_grow_2_4 ?_
  refine lv_istore_n (lv' := [(2, .int (0)), (0, .ref (al)), (1, .int (1))]) hexec hb dJ2_grow_2_5 rfl hl (by decide) rfl (fun ls hl => ?_)
  refine lv_iload_n hexec hb dJ2_grow_2_6 rfl (lv_at hl 0 rfl) ?_
  refine g_ifn_gt hexec hb 20 dJ2_grow_2_7 (by decide) (a := 0) rfl (by decide) (fun c_7 => ?_) (fun c_7 => ?_)
  · skip
    exact absurd c_7 (by decide)
  · skip
    refine lv_aload_n hexec hb dJ2_grow_2_10 rfl (lv_at hl 1 rfl) ?_
    refine g_get X hG hal (ci := 8) rfl in_J2 1 (by decide) q100 (fun _ h => h) rfl dJ2_grow_2_11 ?_
    refine g_gets X hS X.2.1.2.2.1.1 q98 (fun _ h => h) dJ2_grow_2_14 ?_
    refine lv_acmp_eq (rx := some (kE K)) (ry := some (kE K)) (tgt := 45) hexec hb dJ2_grow_2_17 (by decide) (fun c_17 => ?_) (fun c_17 => ?_)
    · skip
      refine lv_aload_n hexec hb dJ2_grow_2_45 rfl (lv_at hl 1 rfl) ?_
      refine lv_bipush (v := 10) hexec hb dJ2_grow_2_46 (by decide) ?_
      refine lv_iload_n hexec hb dJ2_grow_2_48 rfl (lv_at hl 2 rfl) ?_
      refine va_mmax hexec hb (X.1.2.2.1.trans hl.1.symm) X.1.2.2.2.1 (X.1.2.2.2.2 _ q285) (X.1.2.2.2.2 _ q240) (X.1.2.2.2.2 _ q52) (X.1.2.2.2.2 _ q241) (Nat.le_of_ble_eq_true rfl) (Nat.le_of_ble_eq_true rfl) (Nat.le_of_ble_eq_true rfl) (Nat.le_of_ble_eq_true rfl) dJ2_grow_2_49 ?_
      refine g_topE (z := nI (10)) (by decide) ?_
      refine g_newq X hG hS 3 rfl q286 X.2.1.2.2.2.1.2.2.2.2.2.2.1 (N := 10) rfl (by decide) (τ) (Nat.le_of_ble_eq_true rfl) (Nat.le_of_ble_eq_true rfl) dJ2_grow_2_52 (fun n1 H hq hn1A hG hS => ?_)
      have ne_hal_n1 := g_ne_n hal hq
      obtain ⟨G_1, hG, hx, hn1, hn1O⟩ : ∃ G1, gH K G1 H ∧ gExt G G1 ∧ G1 n1 = some (τ, .inl (kA K 3, 10, .inr (.inr (.inr (.inr (fun _ => none)))))) ∧ G1 = gU G n1 (τ) (.inl (kA K 3, 10, .inr (.inr (.inr (.inr (fun _ => none)))))) := ⟨_, hG, gExt.new hq, gU_self, rfl⟩
      have hF := hF.trans hx.gF
      have hal := hx _ _ _ hal
      refine lv_dup_x1 hexec hb dJ2_grow_2_55 rfl rfl ?_
      refine g_put X hG hS hal (ci := 8) rfl in_J2 tyJ2 tyJ2_ok nmJ2 1 (by decide) q100 (fun _ h => h) rfl rfl rfl (fs1 := [.int (md), .ref (n1), .int (nI (n))]) (Nat.le_of_ble_eq_true rfl) rfl dJ2_grow_2_56 (fun H locs hG hS => ?_)
      obtain ⟨G_3, hG, hx, hu, h_new, h_hn1⟩ : ∃ G1, gH K G1 H ∧ gF (fun t => t = τ) G_1 G1 ∧ (∀ b, b ≠ al → G1 b = G_1 b) ∧ G1 al = some (τ, .inr (8, [.int (md), .ref (n1), .int (nI (n))])) ∧ G1 n1 = some (τ, .inl (kA K 3, 10, .inr (.inr (.inr (.inr (fun _ => none)))))) := ⟨_, hG, gF.putO hal rfl, fun b hb => gU_ne hb, gU_self, (gU_ne (g_ne_k hn1 hal)).trans hn1⟩
      have hF := hF.trans (hx.mono (fun t h => h))
      have hal := h_new
      have hn1 := h_hn1
      clear h_new h_hn1
      exact g_aret X hr (Or.inr ⟨_, rfl⟩) hG hS (Or.inr ⟨_, rfl⟩) ⟨n1, rfl, hn1, hal, hF⟩ (by omega) (by omega) dJ2_grow_2_59
    · skip
      exact absurd rfl c_17
set_option maxHeartbeats 2000000 in
set_option maxRecDepth 100000 in
theorem met_J2_grow_2A (l : Launch) (K : gK) (G : gT) (τ al ar n : Nat) (md : Int32) (f : Nat → Option Nat) (hal : G al = some (τ, alO md ar n)) (har : G ar = some (τ, rowC K n f)) (hel : ∀ i, i < n → ∀ v, f i = some v → gElt K G v) (h10 : 10 ≤ n) (hn : n ≤ 1000)  : gMet l K yJ2_grow_2 cJ2_grow_2 4 (some (.array (.object "java/lang/Object"))) 5 250 1 (10 + (n + n / 2)) [.ref (al), .int (nI (n + 1))] G (fun w G1 => ∃ q, w = some (.ref q) ∧ G1 q = some (τ, rowC K ((n + if n + 1 - n < n / 2 then n / 2 else n + 1 - n)) (va_cpy f (fun _ => none) 0 0 (if (n + if n + 1 - n < n / 2 then n / 2 else n + 1 - n) < n then (n + if n + 1 - n < n / 2 then n / 2 else n + 1 - n) else n))) ∧ G1 al = some (τ, alO md q n) ∧ gF (fun t => t = τ) G G1) := by
  refine gMet.of (by decide) (Nat.le_of_ble_eq_true rfl) (fun p e s m below meth c ls hx0 hb X hr hin hG hS hl => ?_)
  have hexec := hx0
  have X : gC K p s m _ meth c cJ2_grow_2 4 "java/util/ArrayList" := X
  have hl : lv_has ls 4 [(0, .ref (al)), (1, .int (nI (n + 1)))] := hl
  have hF : gF (fun t => t = τ) G G := gF.rf
  refine lv_aload_n hexec hb dJ2_grow_2_0 rfl (lv_at hl 0 rfl) ?_
  refine g_get X hG hal (ci := 8) rfl in_J2 1 (by decide) q100 (fun _ h => h) rfl dJ2_grow_2_1 ?_
  refine g_alen X hG 3 rfl har rfl dJ2_grow_2_4 ?_
  refine lv_istore_n (lv' := [(2, .int (nI (n))), (0, .ref (al)), (1, .int (nI (n + 1)))]) hexec hb dJ2_grow_2_5 rfl hl (by decide) rfl (fun ls hl => ?_)
  refine lv_iload_n hexec hb dJ2_grow_2_6 rfl (lv_at hl 0 rfl) ?_
  refine g_ifn_gt hexec hb 20 dJ2_grow_2_7 (by decide) (a := n) rfl (by omega) (fun c_7 => ?_) (fun c_7 => ?_)
  · skip
    refine lv_iload_n hexec hb dJ2_grow_2_20 rfl (lv_at hl 0 rfl) ?_
    refine lv_iload_n hexec hb dJ2_grow_2_21 rfl (lv_at hl 2 rfl) ?_
    refine lv_iload_n hexec hb dJ2_grow_2_22 rfl (lv_at hl 0 rfl) ?_
    refine lv_isub hexec hb dJ2_grow_2_23 ?_
    refine g_topN (n_sub (a := n + 1) (b := n) rfl rfl (by omega)) ?_
    refine lv_iload_n hexec hb dJ2_grow_2_24 rfl (lv_at hl 0 rfl) ?_
    refine lv_iconst (v := 1) hexec hb dJ2_grow_2_25 (by decide) ?_
    refine lv_ishr hexec hb dJ2_grow_2_26 ?_
    refine g_topN (n_shr1 rfl (by omega)) ?_
    refine g_callS X (met_J10_newLength l K G (n) ((n + 1) - n) (n / 2) (by omega) (by omega) (by omega) (by omega)) gp_J10_newLength rfl q236 q237 q51 q238 hG hS hl ⟨Nat.le_of_ble_eq_true rfl, Nat.le_of_ble_eq_true rfl⟩ ⟨(by dsimp only; (try split) <;> omega), (by dsimp only; (try split) <;> omega)⟩ (rest := []) (Nat.le_of_ble_eq_true rfl) rfl dJ2_grow_2_27 (fun w G_1 H locs hp hG hS => ?_)
    obtain ⟨rfl, hge⟩ := hp
    rw [hge] at hG
    clear hge
    refine W.eq (g2 := F0 m 30 ls [.int (nI (n + if (n + 1) - n < n / 2 then n / 2 else (n + 1) - n))]) rfl ?_
    refine lv_istore_n (lv' := [(3, .int (nI (n + if (n + 1) - n < n / 2 then n / 2 else (n + 1) - n))), (2, .int (nI (n))), (0, .ref (al)), (1, .int (nI (n + 1)))]) hexec hb dJ2_grow_2_30 rfl hl (by decide) rfl (fun ls hl => ?_)
    refine lv_aload_n hexec hb dJ2_grow_2_31 rfl (lv_at hl 2 rfl) ?_
    refine lv_aload_n hexec hb dJ2_grow_2_32 rfl (lv_at hl 2 rfl) ?_
    refine g_get X hG hal (ci := 8) rfl in_J2 1 (by decide) q100 (fun _ h => h) rfl dJ2_grow_2_33 ?_
    refine lv_iload_n hexec hb dJ2_grow_2_36 rfl (lv_at hl 0 rfl) ?_
    refine g_callS X (met_J12_copyOf l K G τ ar n (n + if (n + 1) - n < n / 2 then n / 2 else (n + 1) - n) f har hel (by omega) (by split <;> omega)) gp_J12_copyOf rfl q246 q247 q53 q248 hG hS hl ⟨Nat.le_of_ble_eq_true rfl, Nat.le_of_ble_eq_true rfl⟩ ⟨(by dsimp only; (try split) <;> omega), (by dsimp only; (try split) <;> omega)⟩ (rest := [.ref (al)]) (Nat.le_of_ble_eq_true rfl) rfl dJ2_grow_2_37 (fun w G_2 H locs hp hG hS => ?_)
    obtain ⟨n1, rfl, hq, hx, hn1⟩ := hp
    have ne_hal_n1 := g_ne_n hal hq
    have ne_har_n1 := g_ne_n har hq
    have hF := hF.trans hx.gF
    have hal := hx _ _ _ hal
    have har := hx _ _ _ har
    refine W.eq (g2 := F0 m 40 ls [.ref (n1), .ref (al)]) rfl ?_
    refine lv_dup_x1 hexec hb dJ2_grow_2_40 rfl rfl ?_
    refine g_put X hG hS hal (ci := 8) rfl in_J2 tyJ2 tyJ2_ok nmJ2 1 (by decide) q100 (fun _ h => h) rfl rfl rfl (fs1 := [.int (md), .ref (n1), .int (nI (n))]) (Nat.le_of_ble_eq_true rfl) rfl dJ2_grow_2_41 (fun H locs hG hS => ?_)
    obtain ⟨G_4, hG, hx, hu, h_new, h_har, h_hn1⟩ : ∃ G1, gH K G1 H ∧ gF (fun t => t = τ) G_2 G1 ∧ (∀ b, b ≠ al → G1 b = G_2 b) ∧ G1 al = some (τ, .inr (8, [.int (md), .ref (n1), .int (nI (n))])) ∧ G1 ar = some (τ, rowC K n f) ∧ G1 n1 = some (τ, rowC K (n + if (n + 1) - n < n / 2 then n / 2 else (n + 1) - n) (va_cpy f (fun _ => none) 0 0 (if (n + if (n + 1) - n < n / 2 then n / 2 else (n + 1) - n) < n then (n + if (n + 1) - n < n / 2 then n / 2 else (n + 1) - n) else n))) := ⟨_, hG, gF.putO hal rfl, fun b hb => gU_ne hb, gU_self, (gU_ne (g_ne_k har hal)).trans har, (gU_ne (g_ne_k hn1 hal)).trans hn1⟩
    have hF := hF.trans (hx.mono (fun t h => h))
    have hal := h_new
    have har := h_har
    have hn1 := h_hn1
    clear h_new h_har h_hn1
    exact g_aret X hr (Or.inr ⟨_, rfl⟩) hG hS (Or.inr ⟨_, rfl⟩) ⟨n1, rfl, hn1, hal, hF⟩ (by omega) (by split <;> omega) dJ2_grow_2_44
  · skip
    exact absurd c_7 (by omega)
set_option maxHeartbeats 2000000 in
set_option maxRecDepth 100000 in
theorem met_J2_growE (l : Launch) (K : gK) (G : gT) (τ al : Nat) (md : Int32) (hal : G al = some (τ, alO md (kE K) 0))  : gMet l K yJ2_grow cJ2_grow 1 (some (.array (.object "java/lang/Object"))) 6 300 1 10 [.ref (al)] G (fun w G1 => ∃ q, w = some (.ref q) ∧ G1 q = some (τ, rowC K (10) (fun _ => none)) ∧ G1 al = some (τ, alO md q 0) ∧ gF (fun t => t = τ) G G1) := by
  refine gMet.of (by decide) (Nat.le_of_ble_eq_true rfl) (fun p e s m below meth c ls hx0 hb X hr hin hG hS hl => ?_)
  have hexec := hx0
  have X : gC K p s m _ meth c cJ2_grow 1 "java/util/ArrayList" := X
  have hl : lv_has ls 1 [(0, .ref (al))] := hl
  have hF : gF (fun t => t = τ) G G := gF.rf
  refine lv_aload_n hexec hb dJ2_grow_0 rfl (lv_at hl 0 rfl) ?_
  refine lv_aload_n hexec hb dJ2_grow_1 rfl (lv_at hl 0 rfl) ?_
  refine g_get X hG hal (ci := 8) rfl in_J2 2 (by decide) q101 (fun _ h => h) rfl dJ2_grow_2 ?_
  refine lv_iconst (v := 1) hexec hb dJ2_grow_5 (by decide) ?_
  refine lv_iadd hexec hb dJ2_grow_6 ?_
  refine g_topN (n_add (a := 0) (b := 1) rfl rfl) ?_
  refine g_topE (z := 1) (by decide) ?_
  refine g_callV X (met_J2_grow_2E l K G τ al 0 md hal) gp_J2_grow_2 rfl q232 q234 (C := "java/util/ArrayList") qs3 q41 q235 hG hS (gRecv X hG hal (ci := 8) rfl rfl) hl ⟨Nat.le_of_ble_eq_true rfl, Nat.le_of_ble_eq_true rfl⟩ ⟨(by dsimp only; omega), (by dsimp only; omega)⟩ (rest := []) (Nat.le_of_ble_eq_true rfl) rfl dJ2_grow_7 (fun w G_1 H locs hp hG hS => ?_)
  obtain ⟨n1, rfl, h_n1, h_hal, hx⟩ := hp
  have hF := hF.trans (hx.mono (fun t h => h))
  have hn1 := h_n1
  have hal := h_hal
  refine W.eq (g2 := F0 m 10 ls [.ref (n1)]) rfl ?_
  exact g_aret X hr (Or.inr ⟨_, rfl⟩) hG hS (Or.inr ⟨_, rfl⟩) ⟨n1, rfl, hn1, hal, hF⟩ (by omega) (by omega) dJ2_grow_10
set_option maxHeartbeats 2000000 in
set_option maxRecDepth 100000 in
theorem met_J2_growA (l : Launch) (K : gK) (G : gT) (τ al ar n : Nat) (md : Int32) (f : Nat → Option Nat) (hal : G al = some (τ, alO md ar n)) (har : G ar = some (τ, rowC K n f)) (hel : ∀ i, i < n → ∀ v, f i = some v → gElt K G v) (h10 : 10 ≤ n) (hn : n ≤ 1000)  : gMet l K yJ2_grow cJ2_grow 1 (some (.array (.object "java/lang/Object"))) 6 300 1 (10 + (n + n / 2)) [.ref (al)] G (fun w G1 => ∃ q, w = some (.ref q) ∧ G1 q = some (τ, rowC K ((n + if n + 1 - n < n / 2 then n / 2 else n + 1 - n)) (va_cpy f (fun _ => none) 0 0 (if (n + if n + 1 - n < n / 2 then n / 2 else n + 1 - n) < n then (n + if n + 1 - n < n / 2 then n / 2 else n + 1 - n) else n))) ∧ G1 al = some (τ, alO md q n) ∧ gF (fun t => t = τ) G G1) := by
  refine gMet.of (by decide) (Nat.le_of_ble_eq_true rfl) (fun p e s m below meth c ls hx0 hb X hr hin hG hS hl => ?_)
  have hexec := hx0
  have X : gC K p s m _ meth c cJ2_grow 1 "java/util/ArrayList" := X
  have hl : lv_has ls 1 [(0, .ref (al))] := hl
  have hF : gF (fun t => t = τ) G G := gF.rf
  refine lv_aload_n hexec hb dJ2_grow_0 rfl (lv_at hl 0 rfl) ?_
  refine lv_aload_n hexec hb dJ2_grow_1 rfl (lv_at hl 0 rfl) ?_
  refine g_get X hG hal (ci := 8) rfl in_J2 2 (by decide) q101 (fun _ h => h) rfl dJ2_grow_2 ?_
  refine lv_iconst (v := 1) hexec hb dJ2_grow_5 (by decide) ?_
  refine lv_iadd hexec hb dJ2_grow_6 ?_
  refine g_topN (n_add (a := n) (b := 1) rfl rfl) ?_
  refine g_callV X (met_J2_grow_2A l K G τ al ar n md f hal har hel h10 hn) gp_J2_grow_2 rfl q232 q234 (C := "java/util/ArrayList") qs3 q41 q235 hG hS (gRecv X hG hal (ci := 8) rfl rfl) hl ⟨Nat.le_of_ble_eq_true rfl, Nat.le_of_ble_eq_true rfl⟩ ⟨(by dsimp only; omega), (by dsimp only; omega)⟩ (rest := []) (Nat.le_of_ble_eq_true rfl) rfl dJ2_grow_7 (fun w G_1 H locs hp hG hS => ?_)
  obtain ⟨n1, rfl, h_n1, h_hal, hx⟩ := hp
  have hF := hF.trans (hx.mono (fun t h => h))
  have hn1 := h_n1
  have hal := h_hal
  refine W.eq (g2 := F0 m 10 ls [.ref (n1)]) rfl ?_
  exact g_aret X hr (Or.inr ⟨_, rfl⟩) hG hS (Or.inr ⟨_, rfl⟩) ⟨n1, rfl, hn1, hal, hF⟩ (by omega) (by omega) dJ2_grow_10
set_option maxHeartbeats 2000000 in
set_option maxRecDepth 100000 in
theorem met_J2_add_2R (l : Launch) (K : gK) (G : gT) (τ al ar x cap : Nat) (md : Int32) (f : Nat → Option Nat) (xs : List Nat) (hxs : ∀ y ∈ xs, gElt K G y) (hex : gElt K G x) (hal : G al = some (τ, alO md ar xs.length)) (har : G ar = some (τ, rowC K cap f)) (h10 : 10 ≤ cap) (hlt : xs.length < cap) (hc : cap < 1000000) (hf : ∀ i, i < xs.length → f i = xs[i]?)  : gMet l K yJ2_add_2 cJ2_add_2 4 (none) 7 350 1 (10 + (xs.length + xs.length / 2)) [.ref (al), .ref (x), .ref (ar), .int (nI (xs.length))] G (fun w G1 => w = none ∧ isAL K G1 τ al (xs ++ [x]) ∧ gF (fun t => t = τ) G G1) := by
  refine gMet.of (by decide) (Nat.le_of_ble_eq_true rfl) (fun p e s m below meth c ls hx0 hb X hr hin hG hS hl => ?_)
  have hexec := hx0
  have X : gC K p s m _ meth c cJ2_add_2 4 "java/util/ArrayList" := X
  have hl : lv_has ls 4 [(0, .ref (al)), (1, .ref (x)), (2, .ref (ar)), (3, .int (nI (xs.length)))] := hl
  have hF : gF (fun t => t = τ) G G := gF.rf
  refine lv_iload_n hexec hb dJ2_add_2_0 rfl (lv_at hl 3 rfl) ?_
  refine lv_aload_n hexec hb dJ2_add_2_1 rfl (lv_at hl 2 rfl) ?_
  refine g_alen X hG 3 rfl har rfl dJ2_add_2_2 ?_
  refine g_icmp_ne hexec hb 11 dJ2_add_2_3 (by decide) (a := xs.length) (b := cap) rfl rfl (by omega) (by omega) (fun c_3 => ?_) (fun c_3 => ?_)
  · skip
    refine lv_aload_n hexec hb dJ2_add_2_11 rfl (lv_at hl 2 rfl) ?_
    refine lv_iload_n hexec hb dJ2_add_2_12 rfl (lv_at hl 3 rfl) ?_
    refine lv_aload_n hexec hb dJ2_add_2_13 rfl (lv_at hl 1 rfl) ?_
    refine g_aast X hG hS 3 rfl har (hex.any X hG hS) rfl (by omega) (by omega) dJ2_add_2_14 (fun H locs hG hS => ?_)
    obtain ⟨G_1, hG, hx, hu, h_new, h_hal⟩ : ∃ G1, gH K G1 H ∧ gF (fun t => t = τ) G G1 ∧ (∀ b, b ≠ ar → G1 b = G b) ∧ G1 ar = some (τ, rowC K cap (va_up f xs.length (some x))) ∧ G1 al = some (τ, .inr (8, [.int (md), .ref (ar), .int (nI (xs.length))])) := ⟨_, hG, gF.putA har rfl, fun b hb => gU_ne hb, gU_self, (gU_ne (Ne.symm (g_ne_k har hal))).trans hal⟩
    have hex := hex.fr hx
    have hF := hF.trans (hx.mono (fun t h => h))
    have har := h_new
    have hal := h_hal
    clear h_new h_hal
    refine lv_aload_n hexec hb dJ2_add_2_15 rfl (lv_at hl 0 rfl) ?_
    refine lv_iload_n hexec hb dJ2_add_2_16 rfl (lv_at hl 3 rfl) ?_
    refine lv_iconst (v := 1) hexec hb dJ2_add_2_17 (by decide) ?_
    refine lv_iadd hexec hb dJ2_add_2_18 ?_
    refine g_topN (n_add (a := xs.length) (b := 1) rfl rfl) ?_
    refine g_put X hG hS hal (ci := 8) rfl in_J2 tyJ2 tyJ2_ok nmJ2 2 (by decide) q101 (fun _ h => h) rfl rfl rfl (fs1 := [.int (md), .ref (ar), .int (nI (xs.length + 1))]) (Nat.le_of_ble_eq_true rfl) rfl dJ2_add_2_19 (fun H locs hG hS => ?_)
    obtain ⟨G_3, hG, hx, hu, h_new, h_har⟩ : ∃ G1, gH K G1 H ∧ gF (fun t => t = τ) G_1 G1 ∧ (∀ b, b ≠ al → G1 b = G_1 b) ∧ G1 al = some (τ, .inr (8, [.int (md), .ref (ar), .int (nI (xs.length + 1))])) ∧ G1 ar = some (τ, rowC K cap (va_up f xs.length (some x))) := ⟨_, hG, gF.putO hal rfl, fun b hb => gU_ne hb, gU_self, (gU_ne (g_ne_k har hal)).trans har⟩
    have hex := hex.fr hx
    have hF := hF.trans (hx.mono (fun t h => h))
    have hal := h_new
    have har := h_har
    clear h_new h_har
    exact g_vret X hr hG hS ⟨rfl, isAL_push hal har hf h10 hlt hc (fun y hy => (hxs y hy).fr hF) hex, hF⟩ (by omega) (by omega) dJ2_add_2_22
  · skip
    exact absurd c_3 (by omega)
set_option maxHeartbeats 2000000 in
set_option maxRecDepth 100000 in
theorem met_J2_add_2A (l : Launch) (K : gK) (G : gT) (τ al ar x : Nat) (md : Int32) (f : Nat → Option Nat) (xs : List Nat) (hxs : ∀ y ∈ xs, gElt K G y) (hex : gElt K G x) (hal : G al = some (τ, alO md ar xs.length)) (har : G ar = some (τ, rowC K xs.length f)) (h10 : 10 ≤ xs.length) (hn : xs.length ≤ 1000) (hel : ∀ i, i < xs.length → ∀ v, f i = some v → gElt K G v) (hf : ∀ i, i < xs.length → f i = xs[i]?)  : gMet l K yJ2_add_2 cJ2_add_2 4 (none) 7 350 1 (10 + (xs.length + xs.length / 2)) [.ref (al), .ref (x), .ref (ar), .int (nI (xs.length))] G (fun w G1 => w = none ∧ isAL K G1 τ al (xs ++ [x]) ∧ gF (fun t => t = τ) G G1) := by
  refine gMet.of (by decide) (Nat.le_of_ble_eq_true rfl) (fun p e s m below meth c ls hx0 hb X hr hin hG hS hl => ?_)
  have hexec := hx0
  have X : gC K p s m _ meth c cJ2_add_2 4 "java/util/ArrayList" := X
  have hl : lv_has ls 4 [(0, .ref (al)), (1, .ref (x)), (2, .ref (ar)), (3, .int (nI (xs.length)))] := hl
  have hF : gF (fun t => t = τ) G G := gF.rf
  refine lv_iload_n hexec hb dJ2_add_2_0 rfl (lv_at hl 3 rfl) ?_
  refine lv_aload_n hexec hb dJ2_add_2_1 rfl (lv_at hl 2 rfl) ?_
  refine g_alen X hG 3 rfl har rfl dJ2_add_2_2 ?_
  refine g_icmp_ne hexec hb 11 dJ2_add_2_3 (by decide) (a := xs.length) (b := xs.length) rfl rfl (by omega) (by omega) (fun c_3 => ?_) (fun c_3 => ?_)
  · skip
    exact absurd rfl c_3
  · skip
    refine lv_aload_n hexec hb dJ2_add_2_6 rfl (lv_at hl 0 rfl) ?_
    refine g_callV X (met_J2_growA l K G τ al ar xs.length md f hal har hel h10 hn) gp_J2_grow rfl q228 q230 (C := "java/util/ArrayList") qs2 q41 q231 hG hS (gRecv X hG hal (ci := 8) rfl rfl) hl ⟨Nat.le_of_ble_eq_true rfl, Nat.le_of_ble_eq_true rfl⟩ ⟨(by dsimp only; omega), (by dsimp only; omega)⟩ (rest := []) (Nat.le_of_ble_eq_true rfl) rfl dJ2_add_2_7 (fun w G_1 H locs hp hG hS => ?_)
    obtain ⟨n1, rfl, h_n1, h_hal, hx⟩ := hp
    have hex := hex.fr hx
    have hF := hF.trans (hx.mono (fun t h => h))
    have hn1 := h_n1
    have hal := h_hal
    refine W.eq (g2 := F0 m 10 ls [.ref (n1)]) rfl ?_
    refine lv_astore_n (lv' := [(2, .ref (n1)), (0, .ref (al)), (1, .ref (x)), (3, .int (nI (xs.length)))]) hexec hb dJ2_add_2_10 rfl hl (by decide) rfl (fun ls hl => ?_)
    refine lv_aload_n hexec hb dJ2_add_2_11 rfl (lv_at hl 0 rfl) ?_
    refine lv_iload_n hexec hb dJ2_add_2_12 rfl (lv_at hl 3 rfl) ?_
    refine lv_aload_n hexec hb dJ2_add_2_13 rfl (lv_at hl 2 rfl) ?_
    refine g_aast X hG hS 3 rfl hn1 (hex.any X hG hS) rfl (by split <;> omega) (by omega) dJ2_add_2_14 (fun H locs hG hS => ?_)
    obtain ⟨G_2, hG, hx, hu, h_new, h_hal⟩ : ∃ G1, gH K G1 H ∧ gF (fun t => t = τ) G_1 G1 ∧ (∀ b, b ≠ n1 → G1 b = G_1 b) ∧ G1 n1 = some (τ, rowC K (xs.length + if xs.length + 1 - xs.length < xs.length / 2 then xs.length / 2 else xs.length + 1 - xs.length) (va_up (va_cpy f (fun _ => none) 0 0 (if (xs.length + if xs.length + 1 - xs.length < xs.length / 2 then xs.length / 2 else xs.length + 1 - xs.length) < xs.length then (xs.length + if xs.length + 1 - xs.length < xs.length / 2 then xs.length / 2 else xs.length + 1 - xs.length) else xs.length)) xs.length (some x))) ∧ G1 al = some (τ, .inr (8, [.int (md), .ref (n1), .int (nI (xs.length))])) := ⟨_, hG, gF.putA hn1 rfl, fun b hb => gU_ne hb, gU_self, (gU_ne (Ne.symm (g_ne_k hn1 hal))).trans hal⟩
    have hex := hex.fr hx
    have hF := hF.trans (hx.mono (fun t h => h))
    have hn1 := h_new
    have hal := h_hal
    clear h_new h_hal
    refine lv_aload_n hexec hb dJ2_add_2_15 rfl (lv_at hl 1 rfl) ?_
    refine lv_iload_n hexec hb dJ2_add_2_16 rfl (lv_at hl 3 rfl) ?_
    refine lv_iconst (v := 1) hexec hb dJ2_add_2_17 (by decide) ?_
    refine lv_iadd hexec hb dJ2_add_2_18 ?_
    refine g_topN (n_add (a := xs.length) (b := 1) rfl rfl) ?_
    refine g_put X hG hS hal (ci := 8) rfl in_J2 tyJ2 tyJ2_ok nmJ2 2 (by decide) q101 (fun _ h => h) rfl rfl rfl (fs1 := [.int (md), .ref (n1), .int (nI (xs.length + 1))]) (Nat.le_of_ble_eq_true rfl) rfl dJ2_add_2_19 (fun H locs hG hS => ?_)
    obtain ⟨G_4, hG, hx, hu, h_new, h_hn1⟩ : ∃ G1, gH K G1 H ∧ gF (fun t => t = τ) G_2 G1 ∧ (∀ b, b ≠ al → G1 b = G_2 b) ∧ G1 al = some (τ, .inr (8, [.int (md), .ref (n1), .int (nI (xs.length + 1))])) ∧ G1 n1 = some (τ, rowC K (xs.length + if xs.length + 1 - xs.length < xs.length / 2 then xs.length / 2 else xs.length + 1 - xs.length) (va_up (va_cpy f (fun _ => none) 0 0 (if (xs.length + if xs.length + 1 - xs.length < xs.length / 2 then xs.length / 2 else xs.length + 1 - xs.length) < xs.length then (xs.length + if xs.length + 1 - xs.length < xs.length / 2 then xs.length / 2 else xs.length + 1 - xs.length) else xs.length)) xs.length (some x))) := ⟨_, hG, gF.putO hal rfl, fun b hb => gU_ne hb, gU_self, (gU_ne (g_ne_k hn1 hal)).trans hn1⟩
    have hex := hex.fr hx
    have hF := hF.trans (hx.mono (fun t h => h))
    have hal := h_new
    have hn1 := h_hn1
    clear h_new h_hn1
    exact g_vret X hr hG hS ⟨rfl, isAL_push hal hn1 (fun i hi => by rw [va_cpy, if_pos ⟨Nat.zero_le _, by split <;> split <;> omega⟩, Nat.sub_zero, Nat.zero_add]; exact hf i hi) (by omega) (by split <;> omega) (by split <;> omega) (fun y hy => (hxs y hy).fr hF) hex, hF⟩ (by omega) (by omega) dJ2_add_2_22
set_option maxHeartbeats 2000000 in
set_option maxRecDepth 100000 in
theorem met_J2_add_2E (l : Launch) (K : gK) (G : gT) (τ al x : Nat) (md : Int32) (hex : gElt K G x) (hal : G al = some (τ, alO md (kE K) 0))  : gMet l K yJ2_add_2 cJ2_add_2 4 (none) 7 350 1 10 [.ref (al), .ref (x), .ref (kE K), .int (nI (0))] G (fun w G1 => w = none ∧ isAL K G1 τ al ([] ++ [x]) ∧ gF (fun t => t = τ) G G1) := by
  refine gMet.of (by decide) (Nat.le_of_ble_eq_true rfl) (fun p e s m below meth c ls hx0 hb X hr hin hG hS hl => ?_)
  have hexec := hx0
  have X : gC K p s m _ meth c cJ2_add_2 4 "java/util/ArrayList" := X
  have hl : lv_has ls 4 [(0, .ref (al)), (1, .ref (x)), (2, .ref (kE K)), (3, .int (nI (0)))] := hl
  have hF : gF (fun t => t = τ) G G := gF.rf
  refine lv_iload_n hexec hb dJ2_add_2_0 rfl (lv_at hl 3 rfl) ?_
  refine lv_aload_n hexec hb dJ2_add_2_1 rfl (lv_at hl 2 rfl) ?_
  refine vb_len0 X hS dJ2_add_2_2 ?_
  refine g_icmp_ne hexec hb 11 dJ2_add_2_3 (by decide) (a := 0) (b := 0) rfl rfl (by decide) (by decide) (fun c_3 => ?_) (fun c_3 => ?_)
  · skip
    exact absurd rfl c_3
  · skip
    refine lv_aload_n hexec hb dJ2_add_2_6 rfl (lv_at hl 0 rfl) ?_
    refine g_callV X (met_J2_growE l K G τ al md hal) gp_J2_grow rfl q228 q230 (C := "java/util/ArrayList") qs2 q41 q231 hG hS (gRecv X hG hal (ci := 8) rfl rfl) hl ⟨Nat.le_of_ble_eq_true rfl, Nat.le_of_ble_eq_true rfl⟩ ⟨(by dsimp only; omega), (by dsimp only; omega)⟩ (rest := []) (Nat.le_of_ble_eq_true rfl) rfl dJ2_add_2_7 (fun w G_1 H locs hp hG hS => ?_)
    obtain ⟨n1, rfl, h_n1, h_hal, hx⟩ := hp
    have hex := hex.fr hx
    have hF := hF.trans (hx.mono (fun t h => h))
    have hn1 := h_n1
    have hal := h_hal
    refine W.eq (g2 := F0 m 10 ls [.ref (n1)]) rfl ?_
    refine lv_astore_n (lv' := [(2, .ref (n1)), (0, .ref (al)), (1, .ref (x)), (3, .int (nI (0)))]) hexec hb dJ2_add_2_10 rfl hl (by decide) rfl (fun ls hl => ?_)
    refine lv_aload_n hexec hb dJ2_add_2_11 rfl (lv_at hl 0 rfl) ?_
    refine lv_iload_n hexec hb dJ2_add_2_12 rfl (lv_at hl 3 rfl) ?_
    refine lv_aload_n hexec hb dJ2_add_2_13 rfl (lv_at hl 2 rfl) ?_
    refine g_aast X hG hS 3 rfl hn1 (hex.any X hG hS) rfl (by omega) (by omega) dJ2_add_2_14 (fun H locs hG hS => ?_)
    obtain ⟨G_2, hG, hx, hu, h_new, h_hal⟩ : ∃ G1, gH K G1 H ∧ gF (fun t => t = τ) G_1 G1 ∧ (∀ b, b ≠ n1 → G1 b = G_1 b) ∧ G1 n1 = some (τ, rowC K 10 (va_up (fun _ => none) 0 (some x))) ∧ G1 al = some (τ, .inr (8, [.int (md), .ref (n1), .int (0)])) := ⟨_, hG, gF.putA hn1 rfl, fun b hb => gU_ne hb, gU_self, (gU_ne (Ne.symm (g_ne_k hn1 hal))).trans hal⟩
    have hex := hex.fr hx
    have hF := hF.trans (hx.mono (fun t h => h))
    have hn1 := h_new
    have hal := h_hal
    clear h_new h_hal
    refine lv_aload_n hexec hb dJ2_add_2_15 rfl (lv_at hl 1 rfl) ?_
    refine lv_iload_n hexec hb dJ2_add_2_16 rfl (lv_at hl 3 rfl) ?_
    refine lv_iconst (v := 1) hexec hb dJ2_add_2_17 (by decide) ?_
    refine lv_iadd hexec hb dJ2_add_2_18 ?_
    refine g_topN (n_add (a := 0) (b := 1) rfl rfl) ?_
    refine g_put X hG hS hal (ci := 8) rfl in_J2 tyJ2 tyJ2_ok nmJ2 2 (by decide) q101 (fun _ h => h) rfl rfl rfl (fs1 := [.int (md), .ref (n1), .int (nI (0 + 1))]) (Nat.le_of_ble_eq_true rfl) rfl dJ2_add_2_19 (fun H locs hG hS => ?_)
    obtain ⟨G_4, hG, hx, hu, h_new, h_hn1⟩ : ∃ G1, gH K G1 H ∧ gF (fun t => t = τ) G_2 G1 ∧ (∀ b, b ≠ al → G1 b = G_2 b) ∧ G1 al = some (τ, .inr (8, [.int (md), .ref (n1), .int (nI (0 + 1))])) ∧ G1 n1 = some (τ, rowC K 10 (va_up (fun _ => none) 0 (some x))) := ⟨_, hG, gF.putO hal rfl, fun b hb => gU_ne hb, gU_self, (gU_ne (g_ne_k hn1 hal)).trans hn1⟩
    have hex := hex.fr hx
    have hF := hF.trans (hx.mono (fun t h => h))
    have hal := h_new
    have hn1 := h_hn1
    clear h_new h_hn1
    exact g_vret X hr hG hS ⟨rfl, isAL_push (xs := []) hal hn1 (fun i hi => absurd hi (Nat.not_lt_zero i)) (by omega) (by decide) (by omega) (fun y hy => absurd hy (by simp)) hex, hF⟩ (by omega) (by omega) dJ2_add_2_22
theorem met_J2_add_2 (l : Launch) (K : gK) (G : gT) (τ al x ar : Nat) (md : Int32) (xs : List Nat) (h : isALr K G τ al xs md ar) (hex : gElt K G x) (hn : xs.length ≤ 1000) : gMet l K yJ2_add_2 cJ2_add_2 4 none 7 350 1 (10 + (xs.length + xs.length / 2)) [.ref al, .ref x, .ref ar, .int (nI xs.length)] G (fun w G1 => w = none ∧ isAL K G1 τ al (xs ++ [x]) ∧ gF (fun t => t = τ) G G1) := by
  obtain ⟨hal, hxs, h3⟩ := h
  rcases h3 with ⟨rfl, rfl⟩ | ⟨cap, f, har, h10, hle, hc, hf⟩
  · exact met_J2_add_2E l K G τ al x md hex hal
  · by_cases hcap : xs.length = cap
    · subst hcap
      exact met_J2_add_2A l K G τ al ar x md f xs hxs hex hal har h10 hn (fun i hi v hv => hxs v (List.mem_of_getElem? ((hf i hi).symm.trans hv))) hf
    · exact met_J2_add_2R l K G τ al ar x cap md f xs hxs hex hal har h10 (by omega) hc hf
theorem isALr.upd {K : gK} {G G1 : gT} {τ al ar : Nat} {md md1 : Int32} {xs : List Nat} (h : isALr K G τ al xs md ar) (hx : gF (fun t => t = τ) G G1) (hu : ∀ b, b ≠ al → G1 b = G b) (hal : G1 al = some (τ, alO md1 ar xs.length)) : isALr K G1 τ al xs md1 ar := by
  obtain ⟨h1, h2, h3⟩ := h
  refine ⟨hal, fun x hx1 => (h2 x hx1).fr hx, ?_⟩
  rcases h3 with h3 | ⟨cap, f, har, h4⟩
  · exact Or.inl h3
  · exact Or.inr ⟨cap, f, by rw [hu ar (g_ne_k har h1)]; exact har, h4⟩
set_option maxHeartbeats 2000000 in
set_option maxRecDepth 100000 in
theorem met_J2_addr (l : Launch) (K : gK) (G : gT) (τ al ar x : Nat) (md : Int32) (xs : List Nat) (hR : isALr K G τ al xs md ar) (hex : gElt K G x) (hn : xs.length ≤ 1000)  : gMet l K yJ2_add cJ2_add 2 (some .boolean) 8 420 1 (10 + (xs.length + xs.length / 2)) [.ref (al), .ref (x)] G (fun w G1 => w = some (.int 1) ∧ isAL K G1 τ al (xs ++ [x]) ∧ gF (fun t => t = τ) G G1) := by
  refine gMet.of (by decide) (Nat.le_of_ble_eq_true rfl) (fun p e s m below meth c ls hx0 hb X hr hin hG hS hl => ?_)
  have hexec := hx0
  have X : gC K p s m _ meth c cJ2_add 2 "java/util/ArrayList" := X
  have hl : lv_has ls 2 [(0, .ref (al)), (1, .ref (x))] := hl
  have hal := hR.1
  have hF : gF (fun t => t = τ) G G := gF.rf
  refine lv_aload_n hexec hb dJ2_add_0 rfl (lv_at hl 0 rfl) ?_
  refine lv_dup hexec hb dJ2_add_1 rfl ?_
  refine g_get X hG hal (ci := 8) rfl in_J2 0 (by decide) q103 (u_same (X.1.2.2.2.2 _ q104)) rfl dJ2_add_2 ?_
  refine lv_iconst (v := 1) hexec hb dJ2_add_5 (by decide) ?_
  refine lv_iadd hexec hb dJ2_add_6 ?_
  refine g_put X hG hS hal (ci := 8) rfl in_J2 tyJ2 tyJ2_ok nmJ2 0 (by decide) q103 (u_same (X.1.2.2.2.2 _ q104)) rfl rfl rfl (fs1 := [.int (md + 1), .ref (ar), .int (nI (xs.length))]) (Nat.le_of_ble_eq_true rfl) rfl dJ2_add_7 (fun H locs hG hS => ?_)
  obtain ⟨G_2, hG, hx, hu, h_new⟩ : ∃ G1, gH K G1 H ∧ gF (fun t => t = τ) G G1 ∧ (∀ b, b ≠ al → G1 b = G b) ∧ G1 al = some (τ, .inr (8, [.int (md + 1), .ref (ar), .int (nI (xs.length))])) := ⟨_, hG, gF.putO hal rfl, fun b hb => gU_ne hb, gU_self⟩
  have hex := hex.fr hx
  have hF := hF.trans (hx.mono (fun t h => h))
  have hal := h_new
  clear h_new
  refine lv_aload_n hexec hb dJ2_add_10 rfl (lv_at hl 0 rfl) ?_
  refine lv_aload_n hexec hb dJ2_add_11 rfl (lv_at hl 1 rfl) ?_
  refine lv_aload_n hexec hb dJ2_add_12 rfl (lv_at hl 0 rfl) ?_
  refine g_get X hG hal (ci := 8) rfl in_J2 1 (by decide) q100 (fun _ h => h) rfl dJ2_add_13 ?_
  refine lv_aload_n hexec hb dJ2_add_16 rfl (lv_at hl 0 rfl) ?_
  refine g_get X hG hal (ci := 8) rfl in_J2 2 (by decide) q101 (fun _ h => h) rfl dJ2_add_17 ?_
  refine g_callV X (met_J2_add_2 l K G_2 τ al x ar (md + 1) xs (hR.upd hx hu hal) hex hn) gp_J2_add_2 rfl q224 q226 (C := "java/util/ArrayList") qs1 q41 q227 hG hS (gRecv X hG hal (ci := 8) rfl rfl) hl ⟨Nat.le_of_ble_eq_true rfl, Nat.le_of_ble_eq_true rfl⟩ ⟨(by dsimp only; omega), (by dsimp only; omega)⟩ (rest := []) (Nat.le_of_ble_eq_true rfl) rfl dJ2_add_20 (fun w G_3 H locs hp hG hS => ?_)
  obtain ⟨rfl, h_A, hx⟩ := hp
  have hex := hex.fr hx
  have hF := hF.trans (hx.mono (fun t h => h))
  have hA := h_A
  refine W.eq (g2 := F0 m 23 ls []) rfl ?_
  refine lv_iconst (v := 1) hexec hb dJ2_add_23 (by decide) ?_
  exact g_zret X hr hG hS rfl ⟨rfl, hA, hF⟩ (by omega) (by omega) dJ2_add_24
theorem met_J2_add (l : Launch) (K : gK) (G : gT) (τ al x : Nat) (xs : List Nat) (h : isAL K G τ al xs) (hex : gElt K G x) (hn : xs.length ≤ 1000) : gMet l K yJ2_add cJ2_add 2 (some .boolean) 8 420 1 (10 + (xs.length + xs.length / 2)) [.ref al, .ref x] G (fun w G1 => w = some (.int 1) ∧ isAL K G1 τ al (xs ++ [x]) ∧ gF (fun t => t = τ) G G1) := by
  obtain ⟨md, ar, hR⟩ := h
  exact met_J2_addr l K G τ al ar x md xs hR hex hn
