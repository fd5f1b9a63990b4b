/-! the reference is born (printed by gen/ctor.py) -/
set_option maxRecDepth 100000
def m0 : mS := (fun _ => 0, fun i => if i = 0 then 16 else if i = 1 then 12 else if i = 2 then 2 else if i = 3 then 2 else if i = 4 then 65536 else 0, fun _ => 0, fun _ _ => 0, fun _ _ => 0, fun _ _ => false, fun _ _ => 0, fun _ _ => 0, fun _ _ _ => 0, fun _ _ _ => 0)
/-- cells known of the growing world -/
def kn (L : List (Nat → Nat → va_E → Prop)) (G : gT) : Prop := ∀ P ∈ L, ∀ (a t : Nat) (e : va_E), P a t e → G a = some (t, e) ∧ t ≠ 0
theorem kn.new {L : List (Nat → Nat → va_E → Prop)} {G G1 : gT} {P : Nat → Nat → va_E → Prop} (h : kn L G) (hx : gExt G G1) (hP : ∀ a t e, P a t e → G1 a = some (t, e) ∧ t ≠ 0) : kn (P :: L) G1 := by
  intro P1 hP1 a t e ha
  rcases List.mem_cons.mp hP1 with rfl | h1
  · exact hP a t e ha
  · exact ⟨hx a t e (h P1 h1 a t e ha).1, (h P1 h1 a t e ha).2⟩
theorem kn.put {L : List (Nat → Nat → va_E → Prop)} {G : gT} {mo : Nat} {x y : va_E} (h : kn L G) (hO : G mo = some (0, x)) : kn L (gU G mo 0 y) := by
  intro P1 hP1 a t e ha
  obtain ⟨h1, h2⟩ := h P1 hP1 a t e ha
  refine ⟨?_, h2⟩
  rw [gU_ne (g_ne_t h1 hO h2)]
  exact h1
theorem kn.at {L : List (Nat → Nat → va_E → Prop)} {G : gT} (h : kn L G) (i : Nat) {P : Nat → Nat → va_E → Prop} (hi : L[i]? = some P) {a t : Nat} {e : va_E} (hp : P a t e) : G a = some (t, e) := (h P (List.mem_of_getElem? hi) a t e hp).1
def iK (K : gK) (mo : Nat) (L : List (Nat → Nat → va_E → Prop)) (fs : List Value) (G0 : gT) (H : Heap) : Prop := ∃ G : gT, kn L G ∧ G mo = some (0, .inr (1, fs)) ∧ gH K G H ∧ gF mT G0 G
abbrev one (q t0 : Nat) (x : va_E) : Nat → Nat → va_E → Prop := fun a t e => a = q ∧ t = t0 ∧ e = x
abbrev row2 (h t0 N : Nat) (t1 : Nat → Nat) (x y : va_E) : Nat → Nat → va_E → Prop := fun a t e => (a = h ∧ t = t0 ∧ e = x) ∨ ∃ j, j < N ∧ a = h + 1 + j ∧ t = t1 j ∧ e = y
abbrev row3 (h t0 N M : Nat) (t1 : Nat → Nat) (t2 : Nat → Nat → Nat) (x : va_E) (y : Nat → va_E) (z : va_E) : Nat → Nat → va_E → Prop := fun a t e => (a = h ∧ t = t0 ∧ e = x) ∨ ∃ j, j < N ∧ ((a = h + 1 + j * (1 + M) ∧ t = t1 j ∧ e = y j) ∨ ∃ b, b < M ∧ a = h + 1 + j * (1 + M) + 1 + b ∧ t = t2 j b ∧ e = z)
section IK
variable {p : Program} {l : Launch} {e : Env} {R : Room} {s : State} {m : MethodId} {args : Array Value} {below : List Frame} {meth : Method} {c : Code} {H : Heap} {locs : List Loc} {cells slots : Nat} {Q : State → Prop}
variable {cc : ByteArray} {pc : Nat} {ls : Array Slot} {rest : List Value} {K : gK} {own : String} {nL : Nat} {G0 : gT} {mo : Nat} {L : List (Nat → Nat → va_E → Prop)} {fs : List Value}
theorem i_newa (X : gC K p s m args meth c cc nL own) (hI : iK K mo L fs G0 H) (hS : va_S (gA K) s.heap H locs) {atype : ArrayType} (k : Nat) {cA : ClassId} (hk : (gty K)[k]? = some (cA, newarray.typeOf atype)) (hra : ∀ U, va_RA U cA (newarray.typeOf atype) → U.vm.findClass ("[" ++ (newarray.typeOf atype).toString) = some cA) (harr : Cond.arrayClass (newarray.typeOf atype) ∈ lw_all)
    {n : Int32} (N : Nat) (hn : n = nI N) (hN : N * 8 ≤ 536870912) (hw : componentBytes (newarray.typeOf atype) ≤ 8) (t : Nat) (ht : t ≠ 0) (a0 : vp_A) (ha : vp_cell cA a0 = arrV cA N (fun _ => defaultValue (newarray.typeOf atype))) (hcells : cells + 1 ≤ R.cells) (hslots : slots + N ≤ R.slots) (hdg : decode cc pc = .ok (.newarray atype, 2))
    (kk : ∀ (q : Nat) (H1 : Heap), iK K mo (one q t (.inl (cA, a0)) :: L) fs G0 H1 → va_S (gA K) s.heap H1 locs → W p l e R s m args below meth c H1 locs (cells + 1) (slots + N) Q (F0 m (pc + 2) ls (.ref q :: rest))) : W p l e R s m args below meth c H locs cells slots Q (F0 m pc ls (.int n :: rest)) := by
  obtain ⟨G, hL, hO, hG, hF⟩ := hI
  refine g_newa X hG hS k hk hra harr hn hN hw t ha hcells hslots hdg (fun q H1 hq _ hG1 hS1 => ?_)
  refine kk q H1 ⟨_, hL.new (gExt.new hq) (fun a t1 e ⟨h1, h2, h3⟩ => by subst h1; subst h2; subst h3; exact ⟨gU_self, ht⟩), gExt.new hq _ _ _ hO, hG1, hF.trans (gExt.new hq).gF⟩ hS1
theorem i_new2 (X : gC K p s m args meth c cc nL own) (hI : iK K mo L fs G0 H) (hS : va_S (gA K) s.heap H locs) {index : Nat} (hcl : Cond.classLink own index "[[J" ∈ lw_all)
    {n k : Int32} (N M : Nat) (hn : n = nI N) (hk : k = nI M) (hN : N * 8 ≤ 536870912) (hM : M * 8 ≤ 536870912) (t0 : Nat) (t1 : Nat → Nat) (ht0 : t0 ≠ 0) (ht1 : ∀ j, t1 j ≠ 0) (hcells : cells + (1 + N) ≤ R.cells) (hslots : slots + (N + N * M) ≤ R.slots) (hdg : decode cc pc = .ok (.multianewarray index 2, 4))
    (kk : ∀ (h : Nat) (H1 : Heap), iK K mo (row2 h t0 N t1 (refC (kA K 5) N (fun j => h + 1 + j)) (lngC (kA K 1) M (fun _ => 0)) :: L) fs G0 H1 → va_S (gA K) s.heap H1 locs → W p l e R s m args below meth c H1 locs (cells + 1 + N) (slots + N + N * M) Q (F0 m (pc + 4) ls (.ref h :: rest))) : W p l e R s m args below meth c H locs cells slots Q (F0 m pc ls (.int k :: .int n :: rest)) := by
  obtain ⟨G, hL, hO, hG, hF⟩ := hI
  refine g_mnew2 X hG hS hcl hn hk hN hM t0 t1 hcells hslots hdg (fun h G1 H1 hx _ _ e0 e1 hG1 hS1 => ?_)
  refine kk h H1 ⟨_, hL.new hx (fun a t e hp => ?_), hx _ _ _ hO, hG1, hF.trans hx.gF⟩ hS1
  rcases hp with ⟨rfl, rfl, rfl⟩ | ⟨j, hj, rfl, rfl, rfl⟩
  · exact ⟨e0, ht0⟩
  · exact ⟨e1 j hj, ht1 j⟩
theorem i_new3 (X : gC K p s m args meth c cc nL own) (hI : iK K mo L fs G0 H) (hS : va_S (gA K) s.heap H locs) {index : Nat} (hcl : Cond.classLink own index "[[[J" ∈ lw_all)
    {n k q : Int32} (N M B : Nat) (hn : n = nI N) (hk : k = nI M) (hq : q = nI B) (hN : N * 8 ≤ 536870912) (hM : M * 8 ≤ 536870912) (hB : B * 8 ≤ 536870912) (t0 : Nat) (t1 : Nat → Nat) (t2 : Nat → Nat → Nat) (ht0 : t0 ≠ 0) (ht1 : ∀ j, t1 j ≠ 0) (ht2 : ∀ j b, t2 j b ≠ 0) (hcells : cells + (1 + N * (1 + M)) ≤ R.cells) (hslots : slots + (N + N * (M + M * B)) ≤ R.slots) (hdg : decode cc pc = .ok (.multianewarray index 3, 4))
    (kk : ∀ (h : Nat) (H1 : Heap), iK K mo (row3 h t0 N M t1 t2 (refC (kA K 6) N (fun j => h + 1 + j * (1 + M))) (fun j => refC (kA K 5) M (fun b => h + 1 + j * (1 + M) + 1 + b)) (lngC (kA K 1) B (fun _ => 0)) :: L) fs G0 H1 → va_S (gA K) s.heap H1 locs → W p l e R s m args below meth c H1 locs (cells + 1 + N * (1 + M)) (slots + N + N * (M + M * B)) Q (F0 m (pc + 4) ls (.ref h :: rest))) : W p l e R s m args below meth c H locs cells slots Q (F0 m pc ls (.int q :: .int k :: .int n :: rest)) := by
  obtain ⟨G, hL, hO, hG, hF⟩ := hI
  refine g_mnew3 X hG hS hcl hn hk hq hN hM hB t0 t1 t2 hcells hslots hdg (fun h G1 H1 hx _ _ e0 e1 hG1 hS1 => ?_)
  refine kk h H1 ⟨_, hL.new hx (fun a t e hp => ?_), hx _ _ _ hO, hG1, hF.trans hx.gF⟩ hS1
  rcases hp with ⟨rfl, rfl, rfl⟩ | ⟨j, hj, ⟨rfl, rfl, rfl⟩ | ⟨b, hb, rfl, rfl, rfl⟩⟩
  · exact ⟨e0, ht0⟩
  · exact ⟨(e1 j hj).1, ht1 j⟩
  · exact ⟨(e1 j hj).2 b hb, ht2 j b⟩
end IK
def iA (q6_ q9_ q10_ q12_ q16_ q17_ q18_ q19_ q20_ q21_ q22_ q23_ q24_ q25_ q26_ q27_ q28_ q29_ q30_ q31_ q32_ q33_ q35_ q37_ q38_ : Nat) : mA := (fun i => if i = 6 then q6_ else if i = 9 then q9_ else if i = 10 then q10_ else if i = 12 then q12_ else if i = 16 then q16_ else if i = 17 then q17_ else if i = 18 then q18_ else if i = 19 then q19_ else if i = 20 then q20_ else if i = 21 then q21_ else if i = 22 then q22_ else if i = 23 then q23_ else if i = 24 then q24_ else if i = 25 then q25_ else if i = 26 then q26_ else if i = 27 then q27_ else if i = 28 then q28_ else if i = 29 then q29_ else if i = 30 then q30_ else if i = 31 then q31_ else if i = 32 then q32_ else if i = 33 then q33_ else if i = 35 then q35_ else if i = 37 then q37_ else if i = 38 then q38_ else 0, fun j => q25_ + 1 + j, fun t => q26_ + 1 + t * (1 + 64), fun t b => q26_ + 1 + t * (1 + 64) + 1 + b, fun t => q27_ + 1 + t * (1 + 64), fun t b => q27_ + 1 + t * (1 + 64) + 1 + b)
def iZ : List Value := [.int 0, .int 0, .int 0, .int 0, .int 0, .int 0, .null, .int 0, .int 0, .null, .null, .int 0, .null, .int 0, .int 0, .int 0, .null, .null, .null, .null, .null, .null, .null, .null, .null, .null, .null, .null, .null, .null, .null, .null, .null, .null, .int 0, .null, .int 0, .null, .null, .int 0, .long 0, .long 0, .long 0, .int 0]
set_option maxHeartbeats 4000000 in
theorem met_X2_init (l : Launch) (K : gK) (mo : Nat) (G0 : gT) (h0 : G0 mo = some (0, .inr (1, iZ))) : gMet l K yX2_init cX2_init 1 none 1 40 5265 31654 [.ref mo] G0 (fun w G1 => w = none ∧ ∃ A : mA, mR K mo A m0 G1 ∧ gF mT G0 G1) := by
  refine gMet.of (by decide) (Nat.le_of_ble_eq_true rfl) (fun p e s m below meth c ls hx hb X hr hin hG hS hl => ?_)
  have X : gC K p s m _ meth c cX2_init 1 "KalmanQuayModel" := X
  have hl : lv_has ls 1 [(0, .ref mo)] := hl
  have hI : iK K mo [] iZ G0 s.heap := ⟨G0, fun P hP => (by cases hP), h0, hG, gF.rf⟩
  refine lv_aload_n hx hb dX2_init_0 rfl (lv_at hl 0 rfl) ?_
  refine W.objInit hx hb X.1.2.2.2.1 (X.1.2.2.2.2 _ q1277) (X.1.2.2.2.2 _ q83) (X.1.2.2.2.2 _ q84) rfl (X.1.2.2.1.trans hl.1.symm).symm rfl dX2_init_1 (Nat.le_of_ble_eq_true rfl) (Nat.le_of_ble_eq_true rfl) ?_
  refine lv_aload_n hx hb dX2_init_4 rfl (lv_at hl 0 rfl) ?_
  refine lv_bipush (v := 16) hx hb dX2_init_5 (by decide) ?_
  obtain ⟨G, hL, hO, hG, hF⟩ := hI
  refine g_put X hG hS hO (ci := 1) rfl in_X2 tyX2 tyX2_ok nmX2 0 (by decide) q1282 (fun _ h => h) rfl rfl rfl (fs1 := [.int 16, .int 0, .int 0, .int 0, .int 0, .int 0, .null, .int 0, .int 0, .null, .null, .int 0, .null, .int 0, .int 0, .int 0, .null, .null, .null, .null, .null, .null, .null, .null, .null, .null, .null, .null, .null, .null, .null, .null, .null, .null, .int 0, .null, .int 0, .null, .null, .int 0, .long 0, .long 0, .long 0, .int 0]) (Nat.le_of_ble_eq_true rfl) rfl dX2_init_7 (fun H locs hG1 hS => ?_)
  have hI : iK K mo _ _ G0 H := ⟨_, hL.put hO, gU_self, hG1, hF.trans (gF.putO hO (by show (0 : Nat) < 10000; decide))⟩
  refine lv_aload_n hx hb dX2_init_10 rfl (lv_at hl 0 rfl) ?_
  refine lv_bipush (v := 12) hx hb dX2_init_11 (by decide) ?_
  obtain ⟨G, hL, hO, hG, hF⟩ := hI
  refine g_put X hG hS hO (ci := 1) rfl in_X2 tyX2 tyX2_ok nmX2 1 (by decide) q1283 (fun _ h => h) rfl rfl rfl (fs1 := [.int 16, .int 12, .int 0, .int 0, .int 0, .int 0, .null, .int 0, .int 0, .null, .null, .int 0, .null, .int 0, .int 0, .int 0, .null, .null, .null, .null, .null, .null, .null, .null, .null, .null, .null, .null, .null, .null, .null, .null, .null, .null, .int 0, .null, .int 0, .null, .null, .int 0, .long 0, .long 0, .long 0, .int 0]) (Nat.le_of_ble_eq_true rfl) rfl dX2_init_13 (fun H locs hG1 hS => ?_)
  have hI : iK K mo _ _ G0 H := ⟨_, hL.put hO, gU_self, hG1, hF.trans (gF.putO hO (by show (0 : Nat) < 10000; decide))⟩
  refine lv_aload_n hx hb dX2_init_16 rfl (lv_at hl 0 rfl) ?_
  refine lv_iconst (v := 2) hx hb dX2_init_17 (by decide) ?_
  obtain ⟨G, hL, hO, hG, hF⟩ := hI
  refine g_put X hG hS hO (ci := 1) rfl in_X2 tyX2 tyX2_ok nmX2 2 (by decide) q1284 (fun _ h => h) rfl rfl rfl (fs1 := [.int 16, .int 12, .int 2, .int 0, .int 0, .int 0, .null, .int 0, .int 0, .null, .null, .int 0, .null, .int 0, .int 0, .int 0, .null, .null, .null, .null, .null, .null, .null, .null, .null, .null, .null, .null, .null, .null, .null, .null, .null, .null, .int 0, .null, .int 0, .null, .null, .int 0, .long 0, .long 0, .long 0, .int 0]) (Nat.le_of_ble_eq_true rfl) rfl dX2_init_18 (fun H locs hG1 hS => ?_)
  have hI : iK K mo _ _ G0 H := ⟨_, hL.put hO, gU_self, hG1, hF.trans (gF.putO hO (by show (0 : Nat) < 10000; decide))⟩
  refine lv_aload_n hx hb dX2_init_21 rfl (lv_at hl 0 rfl) ?_
  refine lv_iconst (v := 2) hx hb dX2_init_22 (by decide) ?_
  obtain ⟨G, hL, hO, hG, hF⟩ := hI
  refine g_put X hG hS hO (ci := 1) rfl in_X2 tyX2 tyX2_ok nmX2 3 (by decide) q1285 (fun _ h => h) rfl rfl rfl (fs1 := [.int 16, .int 12, .int 2, .int 2, .int 0, .int 0, .null, .int 0, .int 0, .null, .null, .int 0, .null, .int 0, .int 0, .int 0, .null, .null, .null, .null, .null, .null, .null, .null, .null, .null, .null, .null, .null, .null, .null, .null, .null, .null, .int 0, .null, .int 0, .null, .null, .int 0, .long 0, .long 0, .long 0, .int 0]) (Nat.le_of_ble_eq_true rfl) rfl dX2_init_23 (fun H locs hG1 hS => ?_)
  have hI : iK K mo _ _ G0 H := ⟨_, hL.put hO, gU_self, hG1, hF.trans (gF.putO hO (by show (0 : Nat) < 10000; decide))⟩
  refine lv_aload_n hx hb dX2_init_26 rfl (lv_at hl 0 rfl) ?_
  refine lv_ldc (v := 65536) hx hb X.1.2.2.2.1 (X.1.2.2.2.2 _ q1278) dX2_init_27 ?_
  obtain ⟨G, hL, hO, hG, hF⟩ := hI
  refine g_put X hG hS hO (ci := 1) rfl in_X2 tyX2 tyX2_ok nmX2 4 (by decide) q1286 (fun _ h => h) rfl rfl rfl (fs1 := [.int 16, .int 12, .int 2, .int 2, .int 65536, .int 0, .null, .int 0, .int 0, .null, .null, .int 0, .null, .int 0, .int 0, .int 0, .null, .null, .null, .null, .null, .null, .null, .null, .null, .null, .null, .null, .null, .null, .null, .null, .null, .null, .int 0, .null, .int 0, .null, .null, .int 0, .long 0, .long 0, .long 0, .int 0]) (Nat.le_of_ble_eq_true rfl) rfl dX2_init_29 (fun H locs hG1 hS => ?_)
  have hI : iK K mo _ _ G0 H := ⟨_, hL.put hO, gU_self, hG1, hF.trans (gF.putO hO (by show (0 : Nat) < 10000; decide))⟩
  refine lv_aload_n hx hb dX2_init_32 rfl (lv_at hl 0 rfl) ?_
  refine lv_iconst (v := 4) hx hb dX2_init_33 (by decide) ?_
  refine i_newa X hI hS (atype := .int) 0 rfl (fun _ h => h) q966 4 rfl (by decide) (by decide) 6 (by decide) (4, .inl (fun j => ma m0 6 j)) rfl (Nat.le_of_ble_eq_true rfl) (Nat.le_of_ble_eq_true rfl) dX2_init_34 (fun q6_ H hI hS => ?_)
  obtain ⟨G, hL, hO, hG, hF⟩ := hI
  refine g_putF X hG hS hin hO (ci := 1) rfl in_X2 tyX2 tyX2_ok nmX2 6 (by decide) q1288 (fun _ h => h) rfl rfl rfl rfl (fs1 := [.int 16, .int 12, .int 2, .int 2, .int 65536, .int 0, .ref q6_, .int 0, .int 0, .null, .null, .int 0, .null, .int 0, .int 0, .int 0, .null, .null, .null, .null, .null, .null, .null, .null, .null, .null, .null, .null, .null, .null, .null, .null, .null, .null, .int 0, .null, .int 0, .null, .null, .int 0, .long 0, .long 0, .long 0, .int 0]) (Nat.le_of_ble_eq_true rfl) rfl dX2_init_36 (fun H locs hG1 hS => ?_)
  have hI : iK K mo _ _ G0 H := ⟨_, hL.put hO, gU_self, hG1, hF.trans (gF.putO hO (by show (0 : Nat) < 10000; decide))⟩
  refine lv_aload_n hx hb dX2_init_39 rfl (lv_at hl 0 rfl) ?_
  refine lv_bipush (v := 8) hx hb dX2_init_40 (by decide) ?_
  refine i_newa X hI hS (atype := .int) 0 rfl (fun _ h => h) q966 8 rfl (by decide) (by decide) 9 (by decide) (8, .inl (fun j => nI (mb m0 9 j))) rfl (Nat.le_of_ble_eq_true rfl) (Nat.le_of_ble_eq_true rfl) dX2_init_42 (fun q9_ H hI hS => ?_)
  obtain ⟨G, hL, hO, hG, hF⟩ := hI
  refine g_putF X hG hS hin hO (ci := 1) rfl in_X2 tyX2 tyX2_ok nmX2 9 (by decide) q1291 (fun _ h => h) rfl rfl rfl rfl (fs1 := [.int 16, .int 12, .int 2, .int 2, .int 65536, .int 0, .ref q6_, .int 0, .int 0, .ref q9_, .null, .int 0, .null, .int 0, .int 0, .int 0, .null, .null, .null, .null, .null, .null, .null, .null, .null, .null, .null, .null, .null, .null, .null, .null, .null, .null, .int 0, .null, .int 0, .null, .null, .int 0, .long 0, .long 0, .long 0, .int 0]) (Nat.le_of_ble_eq_true rfl) rfl dX2_init_44 (fun H locs hG1 hS => ?_)
  have hI : iK K mo _ _ G0 H := ⟨_, hL.put hO, gU_self, hG1, hF.trans (gF.putO hO (by show (0 : Nat) < 10000; decide))⟩
  refine lv_aload_n hx hb dX2_init_47 rfl (lv_at hl 0 rfl) ?_
  refine lv_bipush (v := 8) hx hb dX2_init_48 (by decide) ?_
  refine i_newa X hI hS (atype := .int) 0 rfl (fun _ h => h) q966 8 rfl (by decide) (by decide) 10 (by decide) (8, .inl (fun j => ma m0 10 j)) rfl (Nat.le_of_ble_eq_true rfl) (Nat.le_of_ble_eq_true rfl) dX2_init_50 (fun q10_ H hI hS => ?_)
  obtain ⟨G, hL, hO, hG, hF⟩ := hI
  refine g_putF X hG hS hin hO (ci := 1) rfl in_X2 tyX2 tyX2_ok nmX2 10 (by decide) q1292 (fun _ h => h) rfl rfl rfl rfl (fs1 := [.int 16, .int 12, .int 2, .int 2, .int 65536, .int 0, .ref q6_, .int 0, .int 0, .ref q9_, .ref q10_, .int 0, .null, .int 0, .int 0, .int 0, .null, .null, .null, .null, .null, .null, .null, .null, .null, .null, .null, .null, .null, .null, .null, .null, .null, .null, .int 0, .null, .int 0, .null, .null, .int 0, .long 0, .long 0, .long 0, .int 0]) (Nat.le_of_ble_eq_true rfl) rfl dX2_init_52 (fun H locs hG1 hS => ?_)
  have hI : iK K mo _ _ G0 H := ⟨_, hL.put hO, gU_self, hG1, hF.trans (gF.putO hO (by show (0 : Nat) < 10000; decide))⟩
  refine lv_aload_n hx hb dX2_init_55 rfl (lv_at hl 0 rfl) ?_
  refine lv_bipush (v := 8) hx hb dX2_init_56 (by decide) ?_
  refine i_newa X hI hS (atype := .int) 0 rfl (fun _ h => h) q966 8 rfl (by decide) (by decide) 12 (by decide) (8, .inl (fun j => ma m0 12 j)) rfl (Nat.le_of_ble_eq_true rfl) (Nat.le_of_ble_eq_true rfl) dX2_init_58 (fun q12_ H hI hS => ?_)
  obtain ⟨G, hL, hO, hG, hF⟩ := hI
  refine g_putF X hG hS hin hO (ci := 1) rfl in_X2 tyX2 tyX2_ok nmX2 12 (by decide) q1294 (fun _ h => h) rfl rfl rfl rfl (fs1 := [.int 16, .int 12, .int 2, .int 2, .int 65536, .int 0, .ref q6_, .int 0, .int 0, .ref q9_, .ref q10_, .int 0, .ref q12_, .int 0, .int 0, .int 0, .null, .null, .null, .null, .null, .null, .null, .null, .null, .null, .null, .null, .null, .null, .null, .null, .null, .null, .int 0, .null, .int 0, .null, .null, .int 0, .long 0, .long 0, .long 0, .int 0]) (Nat.le_of_ble_eq_true rfl) rfl dX2_init_60 (fun H locs hG1 hS => ?_)
  have hI : iK K mo _ _ G0 H := ⟨_, hL.put hO, gU_self, hG1, hF.trans (gF.putO hO (by show (0 : Nat) < 10000; decide))⟩
  refine lv_aload_n hx hb dX2_init_63 rfl (lv_at hl 0 rfl) ?_
  refine lv_bipush (v := 40) hx hb dX2_init_64 (by decide) ?_
  refine i_newa X hI hS (atype := .boolean) 2 rfl (fun _ h => h) q1415 40 rfl (by decide) (by decide) 16 (by decide) (40, .inl (fun j => gb (mc m0 16 j))) rfl (Nat.le_of_ble_eq_true rfl) (Nat.le_of_ble_eq_true rfl) dX2_init_66 (fun q16_ H hI hS => ?_)
  obtain ⟨G, hL, hO, hG, hF⟩ := hI
  refine g_putF X hG hS hin hO (ci := 1) rfl in_X2 tyX2 tyX2_ok nmX2 16 (by decide) q1298 (fun _ h => h) rfl rfl rfl rfl (fs1 := [.int 16, .int 12, .int 2, .int 2, .int 65536, .int 0, .ref q6_, .int 0, .int 0, .ref q9_, .ref q10_, .int 0, .ref q12_, .int 0, .int 0, .int 0, .ref q16_, .null, .null, .null, .null, .null, .null, .null, .null, .null, .null, .null, .null, .null, .null, .null, .null, .null, .int 0, .null, .int 0, .null, .null, .int 0, .long 0, .long 0, .long 0, .int 0]) (Nat.le_of_ble_eq_true rfl) rfl dX2_init_68 (fun H locs hG1 hS => ?_)
  have hI : iK K mo _ _ G0 H := ⟨_, hL.put hO, gU_self, hG1, hF.trans (gF.putO hO (by show (0 : Nat) < 10000; decide))⟩
  refine lv_aload_n hx hb dX2_init_71 rfl (lv_at hl 0 rfl) ?_
  refine lv_bipush (v := 40) hx hb dX2_init_72 (by decide) ?_
  refine i_newa X hI hS (atype := .boolean) 2 rfl (fun _ h => h) q1415 40 rfl (by decide) (by decide) 17 (by decide) (40, .inl (fun j => gb (mc m0 17 j))) rfl (Nat.le_of_ble_eq_true rfl) (Nat.le_of_ble_eq_true rfl) dX2_init_74 (fun q17_ H hI hS => ?_)
  obtain ⟨G, hL, hO, hG, hF⟩ := hI
  refine g_putF X hG hS hin hO (ci := 1) rfl in_X2 tyX2 tyX2_ok nmX2 17 (by decide) q1299 (fun _ h => h) rfl rfl rfl rfl (fs1 := [.int 16, .int 12, .int 2, .int 2, .int 65536, .int 0, .ref q6_, .int 0, .int 0, .ref q9_, .ref q10_, .int 0, .ref q12_, .int 0, .int 0, .int 0, .ref q16_, .ref q17_, .null, .null, .null, .null, .null, .null, .null, .null, .null, .null, .null, .null, .null, .null, .null, .null, .int 0, .null, .int 0, .null, .null, .int 0, .long 0, .long 0, .long 0, .int 0]) (Nat.le_of_ble_eq_true rfl) rfl dX2_init_76 (fun H locs hG1 hS => ?_)
  have hI : iK K mo _ _ G0 H := ⟨_, hL.put hO, gU_self, hG1, hF.trans (gF.putO hO (by show (0 : Nat) < 10000; decide))⟩
  refine lv_aload_n hx hb dX2_init_79 rfl (lv_at hl 0 rfl) ?_
  refine lv_bipush (v := 40) hx hb dX2_init_80 (by decide) ?_
  refine i_newa X hI hS (atype := .boolean) 2 rfl (fun _ h => h) q1415 40 rfl (by decide) (by decide) 18 (by decide) (40, .inl (fun j => gb (mc m0 18 j))) rfl (Nat.le_of_ble_eq_true rfl) (Nat.le_of_ble_eq_true rfl) dX2_init_82 (fun q18_ H hI hS => ?_)
  obtain ⟨G, hL, hO, hG, hF⟩ := hI
  refine g_putF X hG hS hin hO (ci := 1) rfl in_X2 tyX2 tyX2_ok nmX2 18 (by decide) q1300 (fun _ h => h) rfl rfl rfl rfl (fs1 := [.int 16, .int 12, .int 2, .int 2, .int 65536, .int 0, .ref q6_, .int 0, .int 0, .ref q9_, .ref q10_, .int 0, .ref q12_, .int 0, .int 0, .int 0, .ref q16_, .ref q17_, .ref q18_, .null, .null, .null, .null, .null, .null, .null, .null, .null, .null, .null, .null, .null, .null, .null, .int 0, .null, .int 0, .null, .null, .int 0, .long 0, .long 0, .long 0, .int 0]) (Nat.le_of_ble_eq_true rfl) rfl dX2_init_84 (fun H locs hG1 hS => ?_)
  have hI : iK K mo _ _ G0 H := ⟨_, hL.put hO, gU_self, hG1, hF.trans (gF.putO hO (by show (0 : Nat) < 10000; decide))⟩
  refine lv_aload_n hx hb dX2_init_87 rfl (lv_at hl 0 rfl) ?_
  refine lv_bipush (v := 40) hx hb dX2_init_88 (by decide) ?_
  refine i_newa X hI hS (atype := .boolean) 2 rfl (fun _ h => h) q1415 40 rfl (by decide) (by decide) 19 (by decide) (40, .inl (fun j => gb (mc m0 19 j))) rfl (Nat.le_of_ble_eq_true rfl) (Nat.le_of_ble_eq_true rfl) dX2_init_90 (fun q19_ H hI hS => ?_)
  obtain ⟨G, hL, hO, hG, hF⟩ := hI
  refine g_putF X hG hS hin hO (ci := 1) rfl in_X2 tyX2 tyX2_ok nmX2 19 (by decide) q1301 (fun _ h => h) rfl rfl rfl rfl (fs1 := [.int 16, .int 12, .int 2, .int 2, .int 65536, .int 0, .ref q6_, .int 0, .int 0, .ref q9_, .ref q10_, .int 0, .ref q12_, .int 0, .int 0, .int 0, .ref q16_, .ref q17_, .ref q18_, .ref q19_, .null, .null, .null, .null, .null, .null, .null, .null, .null, .null, .null, .null, .null, .null, .int 0, .null, .int 0, .null, .null, .int 0, .long 0, .long 0, .long 0, .int 0]) (Nat.le_of_ble_eq_true rfl) rfl dX2_init_92 (fun H locs hG1 hS => ?_)
  have hI : iK K mo _ _ G0 H := ⟨_, hL.put hO, gU_self, hG1, hF.trans (gF.putO hO (by show (0 : Nat) < 10000; decide))⟩
  refine lv_aload_n hx hb dX2_init_95 rfl (lv_at hl 0 rfl) ?_
  refine lv_bipush (v := 40) hx hb dX2_init_96 (by decide) ?_
  refine i_newa X hI hS (atype := .int) 0 rfl (fun _ h => h) q966 40 rfl (by decide) (by decide) 20 (by decide) (40, .inl (fun j => nI (mb m0 20 j))) rfl (Nat.le_of_ble_eq_true rfl) (Nat.le_of_ble_eq_true rfl) dX2_init_98 (fun q20_ H hI hS => ?_)
  obtain ⟨G, hL, hO, hG, hF⟩ := hI
  refine g_putF X hG hS hin hO (ci := 1) rfl in_X2 tyX2 tyX2_ok nmX2 20 (by decide) q1302 (fun _ h => h) rfl rfl rfl rfl (fs1 := [.int 16, .int 12, .int 2, .int 2, .int 65536, .int 0, .ref q6_, .int 0, .int 0, .ref q9_, .ref q10_, .int 0, .ref q12_, .int 0, .int 0, .int 0, .ref q16_, .ref q17_, .ref q18_, .ref q19_, .ref q20_, .null, .null, .null, .null, .null, .null, .null, .null, .null, .null, .null, .null, .null, .int 0, .null, .int 0, .null, .null, .int 0, .long 0, .long 0, .long 0, .int 0]) (Nat.le_of_ble_eq_true rfl) rfl dX2_init_100 (fun H locs hG1 hS => ?_)
  have hI : iK K mo _ _ G0 H := ⟨_, hL.put hO, gU_self, hG1, hF.trans (gF.putO hO (by show (0 : Nat) < 10000; decide))⟩
  refine lv_aload_n hx hb dX2_init_103 rfl (lv_at hl 0 rfl) ?_
  refine lv_bipush (v := 40) hx hb dX2_init_104 (by decide) ?_
  refine i_newa X hI hS (atype := .int) 0 rfl (fun _ h => h) q966 40 rfl (by decide) (by decide) 21 (by decide) (40, .inl (fun j => nI (mb m0 21 j))) rfl (Nat.le_of_ble_eq_true rfl) (Nat.le_of_ble_eq_true rfl) dX2_init_106 (fun q21_ H hI hS => ?_)
  obtain ⟨G, hL, hO, hG, hF⟩ := hI
  refine g_putF X hG hS hin hO (ci := 1) rfl in_X2 tyX2 tyX2_ok nmX2 21 (by decide) q1303 (fun _ h => h) rfl rfl rfl rfl (fs1 := [.int 16, .int 12, .int 2, .int 2, .int 65536, .int 0, .ref q6_, .int 0, .int 0, .ref q9_, .ref q10_, .int 0, .ref q12_, .int 0, .int 0, .int 0, .ref q16_, .ref q17_, .ref q18_, .ref q19_, .ref q20_, .ref q21_, .null, .null, .null, .null, .null, .null, .null, .null, .null, .null, .null, .null, .int 0, .null, .int 0, .null, .null, .int 0, .long 0, .long 0, .long 0, .int 0]) (Nat.le_of_ble_eq_true rfl) rfl dX2_init_108 (fun H locs hG1 hS => ?_)
  have hI : iK K mo _ _ G0 H := ⟨_, hL.put hO, gU_self, hG1, hF.trans (gF.putO hO (by show (0 : Nat) < 10000; decide))⟩
  refine lv_aload_n hx hb dX2_init_111 rfl (lv_at hl 0 rfl) ?_
  refine lv_bipush (v := 40) hx hb dX2_init_112 (by decide) ?_
  refine i_newa X hI hS (atype := .int) 0 rfl (fun _ h => h) q966 40 rfl (by decide) (by decide) 22 (by decide) (40, .inl (fun j => nI (mb m0 22 j))) rfl (Nat.le_of_ble_eq_true rfl) (Nat.le_of_ble_eq_true rfl) dX2_init_114 (fun q22_ H hI hS => ?_)
  obtain ⟨G, hL, hO, hG, hF⟩ := hI
  refine g_putF X hG hS hin hO (ci := 1) rfl in_X2 tyX2 tyX2_ok nmX2 22 (by decide) q1304 (fun _ h => h) rfl rfl rfl rfl (fs1 := [.int 16, .int 12, .int 2, .int 2, .int 65536, .int 0, .ref q6_, .int 0, .int 0, .ref q9_, .ref q10_, .int 0, .ref q12_, .int 0, .int 0, .int 0, .ref q16_, .ref q17_, .ref q18_, .ref q19_, .ref q20_, .ref q21_, .ref q22_, .null, .null, .null, .null, .null, .null, .null, .null, .null, .null, .null, .int 0, .null, .int 0, .null, .null, .int 0, .long 0, .long 0, .long 0, .int 0]) (Nat.le_of_ble_eq_true rfl) rfl dX2_init_116 (fun H locs hG1 hS => ?_)
  have hI : iK K mo _ _ G0 H := ⟨_, hL.put hO, gU_self, hG1, hF.trans (gF.putO hO (by show (0 : Nat) < 10000; decide))⟩
  refine lv_aload_n hx hb dX2_init_119 rfl (lv_at hl 0 rfl) ?_
  refine lv_bipush (v := 40) hx hb dX2_init_120 (by decide) ?_
  refine i_newa X hI hS (atype := .int) 0 rfl (fun _ h => h) q966 40 rfl (by decide) (by decide) 23 (by decide) (40, .inl (fun j => nI (mb m0 23 j))) rfl (Nat.le_of_ble_eq_true rfl) (Nat.le_of_ble_eq_true rfl) dX2_init_122 (fun q23_ H hI hS => ?_)
  obtain ⟨G, hL, hO, hG, hF⟩ := hI
  refine g_putF X hG hS hin hO (ci := 1) rfl in_X2 tyX2 tyX2_ok nmX2 23 (by decide) q1305 (fun _ h => h) rfl rfl rfl rfl (fs1 := [.int 16, .int 12, .int 2, .int 2, .int 65536, .int 0, .ref q6_, .int 0, .int 0, .ref q9_, .ref q10_, .int 0, .ref q12_, .int 0, .int 0, .int 0, .ref q16_, .ref q17_, .ref q18_, .ref q19_, .ref q20_, .ref q21_, .ref q22_, .ref q23_, .null, .null, .null, .null, .null, .null, .null, .null, .null, .null, .int 0, .null, .int 0, .null, .null, .int 0, .long 0, .long 0, .long 0, .int 0]) (Nat.le_of_ble_eq_true rfl) rfl dX2_init_124 (fun H locs hG1 hS => ?_)
  have hI : iK K mo _ _ G0 H := ⟨_, hL.put hO, gU_self, hG1, hF.trans (gF.putO hO (by show (0 : Nat) < 10000; decide))⟩
  refine lv_aload_n hx hb dX2_init_127 rfl (lv_at hl 0 rfl) ?_
  refine lv_bipush (v := 40) hx hb dX2_init_128 (by decide) ?_
  refine i_newa X hI hS (atype := .int) 0 rfl (fun _ h => h) q966 40 rfl (by decide) (by decide) 24 (by decide) (40, .inl (fun j => nI (mb m0 24 j))) rfl (Nat.le_of_ble_eq_true rfl) (Nat.le_of_ble_eq_true rfl) dX2_init_130 (fun q24_ H hI hS => ?_)
  obtain ⟨G, hL, hO, hG, hF⟩ := hI
  refine g_putF X hG hS hin hO (ci := 1) rfl in_X2 tyX2 tyX2_ok nmX2 24 (by decide) q1306 (fun _ h => h) rfl rfl rfl rfl (fs1 := [.int 16, .int 12, .int 2, .int 2, .int 65536, .int 0, .ref q6_, .int 0, .int 0, .ref q9_, .ref q10_, .int 0, .ref q12_, .int 0, .int 0, .int 0, .ref q16_, .ref q17_, .ref q18_, .ref q19_, .ref q20_, .ref q21_, .ref q22_, .ref q23_, .ref q24_, .null, .null, .null, .null, .null, .null, .null, .null, .null, .int 0, .null, .int 0, .null, .null, .int 0, .long 0, .long 0, .long 0, .int 0]) (Nat.le_of_ble_eq_true rfl) rfl dX2_init_132 (fun H locs hG1 hS => ?_)
  have hI : iK K mo _ _ G0 H := ⟨_, hL.put hO, gU_self, hG1, hF.trans (gF.putO hO (by show (0 : Nat) < 10000; decide))⟩
  refine lv_aload_n hx hb dX2_init_135 rfl (lv_at hl 0 rfl) ?_
  refine lv_bipush (v := 40) hx hb dX2_init_136 (by decide) ?_
  refine lv_iconst (v := 5) hx hb dX2_init_138 (by decide) ?_
  refine i_new2 X hI hS q1279 40 5 rfl rfl (by decide) (by decide) 25 (fun j => 100 + j) (by decide) (fun j => by omega) (Nat.le_of_ble_eq_true rfl) (Nat.le_of_ble_eq_true rfl) dX2_init_139 (fun q25_ H hI hS => ?_)
  obtain ⟨G, hL, hO, hG, hF⟩ := hI
  refine g_putF X hG hS hin hO (ci := 1) rfl in_X2 tyX2 tyX2_ok nmX2 25 (by decide) q1307 (fun _ h => h) rfl rfl rfl rfl (fs1 := [.int 16, .int 12, .int 2, .int 2, .int 65536, .int 0, .ref q6_, .int 0, .int 0, .ref q9_, .ref q10_, .int 0, .ref q12_, .int 0, .int 0, .int 0, .ref q16_, .ref q17_, .ref q18_, .ref q19_, .ref q20_, .ref q21_, .ref q22_, .ref q23_, .ref q24_, .ref q25_, .null, .null, .null, .null, .null, .null, .null, .null, .int 0, .null, .int 0, .null, .null, .int 0, .long 0, .long 0, .long 0, .int 0]) (Nat.le_of_ble_eq_true rfl) rfl dX2_init_143 (fun H locs hG1 hS => ?_)
  have hI : iK K mo _ _ G0 H := ⟨_, hL.put hO, gU_self, hG1, hF.trans (gF.putO hO (by show (0 : Nat) < 10000; decide))⟩
  refine lv_aload_n hx hb dX2_init_146 rfl (lv_at hl 0 rfl) ?_
  refine lv_bipush (v := 40) hx hb dX2_init_147 (by decide) ?_
  refine lv_bipush (v := 64) hx hb dX2_init_149 (by decide) ?_
  refine lv_iconst (v := 5) hx hb dX2_init_151 (by decide) ?_
  refine i_new3 X hI hS q1280 40 64 5 rfl rfl rfl (by decide) (by decide) (by decide) 26 (fun j => 200 + j) (fun j b => 1000 + (64 * j + b)) (by decide) (fun j => by omega) (fun j b => by omega) (Nat.le_of_ble_eq_true rfl) (Nat.le_of_ble_eq_true rfl) dX2_init_152 (fun q26_ H hI hS => ?_)
  obtain ⟨G, hL, hO, hG, hF⟩ := hI
  refine g_putF X hG hS hin hO (ci := 1) rfl in_X2 tyX2 tyX2_ok nmX2 26 (by decide) q1308 (fun _ h => h) rfl rfl rfl rfl (fs1 := [.int 16, .int 12, .int 2, .int 2, .int 65536, .int 0, .ref q6_, .int 0, .int 0, .ref q9_, .ref q10_, .int 0, .ref q12_, .int 0, .int 0, .int 0, .ref q16_, .ref q17_, .ref q18_, .ref q19_, .ref q20_, .ref q21_, .ref q22_, .ref q23_, .ref q24_, .ref q25_, .ref q26_, .null, .null, .null, .null, .null, .null, .null, .int 0, .null, .int 0, .null, .null, .int 0, .long 0, .long 0, .long 0, .int 0]) (Nat.le_of_ble_eq_true rfl) rfl dX2_init_156 (fun H locs hG1 hS => ?_)
  have hI : iK K mo _ _ G0 H := ⟨_, hL.put hO, gU_self, hG1, hF.trans (gF.putO hO (by show (0 : Nat) < 10000; decide))⟩
  refine lv_aload_n hx hb dX2_init_159 rfl (lv_at hl 0 rfl) ?_
  refine lv_bipush (v := 40) hx hb dX2_init_160 (by decide) ?_
  refine lv_bipush (v := 64) hx hb dX2_init_162 (by decide) ?_
  refine lv_iconst (v := 5) hx hb dX2_init_164 (by decide) ?_
  refine i_new3 X hI hS q1280 40 64 5 rfl rfl rfl (by decide) (by decide) (by decide) 27 (fun j => 300 + j) (fun j b => 4000 + (64 * j + b)) (by decide) (fun j => by omega) (fun j b => by omega) (Nat.le_of_ble_eq_true rfl) (Nat.le_of_ble_eq_true rfl) dX2_init_165 (fun q27_ H hI hS => ?_)
  obtain ⟨G, hL, hO, hG, hF⟩ := hI
  refine g_putF X hG hS hin hO (ci := 1) rfl in_X2 tyX2 tyX2_ok nmX2 27 (by decide) q1309 (fun _ h => h) rfl rfl rfl rfl (fs1 := [.int 16, .int 12, .int 2, .int 2, .int 65536, .int 0, .ref q6_, .int 0, .int 0, .ref q9_, .ref q10_, .int 0, .ref q12_, .int 0, .int 0, .int 0, .ref q16_, .ref q17_, .ref q18_, .ref q19_, .ref q20_, .ref q21_, .ref q22_, .ref q23_, .ref q24_, .ref q25_, .ref q26_, .ref q27_, .null, .null, .null, .null, .null, .null, .int 0, .null, .int 0, .null, .null, .int 0, .long 0, .long 0, .long 0, .int 0]) (Nat.le_of_ble_eq_true rfl) rfl dX2_init_169 (fun H locs hG1 hS => ?_)
  have hI : iK K mo _ _ G0 H := ⟨_, hL.put hO, gU_self, hG1, hF.trans (gF.putO hO (by show (0 : Nat) < 10000; decide))⟩
  refine lv_aload_n hx hb dX2_init_172 rfl (lv_at hl 0 rfl) ?_
  refine lv_bipush (v := 40) hx hb dX2_init_173 (by decide) ?_
  refine i_newa X hI hS (atype := .long) 1 rfl (fun _ h => h) q965 40 rfl (by decide) (by decide) 28 (by decide) (40, .inr (.inl (fun j => mj m0 28 j))) rfl (Nat.le_of_ble_eq_true rfl) (Nat.le_of_ble_eq_true rfl) dX2_init_175 (fun q28_ H hI hS => ?_)
  obtain ⟨G, hL, hO, hG, hF⟩ := hI
  refine g_putF X hG hS hin hO (ci := 1) rfl in_X2 tyX2 tyX2_ok nmX2 28 (by decide) q1310 (fun _ h => h) rfl rfl rfl rfl (fs1 := [.int 16, .int 12, .int 2, .int 2, .int 65536, .int 0, .ref q6_, .int 0, .int 0, .ref q9_, .ref q10_, .int 0, .ref q12_, .int 0, .int 0, .int 0, .ref q16_, .ref q17_, .ref q18_, .ref q19_, .ref q20_, .ref q21_, .ref q22_, .ref q23_, .ref q24_, .ref q25_, .ref q26_, .ref q27_, .ref q28_, .null, .null, .null, .null, .null, .int 0, .null, .int 0, .null, .null, .int 0, .long 0, .long 0, .long 0, .int 0]) (Nat.le_of_ble_eq_true rfl) rfl dX2_init_177 (fun H locs hG1 hS => ?_)
  have hI : iK K mo _ _ G0 H := ⟨_, hL.put hO, gU_self, hG1, hF.trans (gF.putO hO (by show (0 : Nat) < 10000; decide))⟩
  refine lv_aload_n hx hb dX2_init_180 rfl (lv_at hl 0 rfl) ?_
  refine lv_bipush (v := 40) hx hb dX2_init_181 (by decide) ?_
  refine i_newa X hI hS (atype := .long) 1 rfl (fun _ h => h) q965 40 rfl (by decide) (by decide) 29 (by decide) (40, .inr (.inl (fun j => mj m0 29 j))) rfl (Nat.le_of_ble_eq_true rfl) (Nat.le_of_ble_eq_true rfl) dX2_init_183 (fun q29_ H hI hS => ?_)
  obtain ⟨G, hL, hO, hG, hF⟩ := hI
  refine g_putF X hG hS hin hO (ci := 1) rfl in_X2 tyX2 tyX2_ok nmX2 29 (by decide) q1311 (fun _ h => h) rfl rfl rfl rfl (fs1 := [.int 16, .int 12, .int 2, .int 2, .int 65536, .int 0, .ref q6_, .int 0, .int 0, .ref q9_, .ref q10_, .int 0, .ref q12_, .int 0, .int 0, .int 0, .ref q16_, .ref q17_, .ref q18_, .ref q19_, .ref q20_, .ref q21_, .ref q22_, .ref q23_, .ref q24_, .ref q25_, .ref q26_, .ref q27_, .ref q28_, .ref q29_, .null, .null, .null, .null, .int 0, .null, .int 0, .null, .null, .int 0, .long 0, .long 0, .long 0, .int 0]) (Nat.le_of_ble_eq_true rfl) rfl dX2_init_185 (fun H locs hG1 hS => ?_)
  have hI : iK K mo _ _ G0 H := ⟨_, hL.put hO, gU_self, hG1, hF.trans (gF.putO hO (by show (0 : Nat) < 10000; decide))⟩
  refine lv_aload_n hx hb dX2_init_188 rfl (lv_at hl 0 rfl) ?_
  refine lv_bipush (v := 40) hx hb dX2_init_189 (by decide) ?_
  refine i_newa X hI hS (atype := .long) 1 rfl (fun _ h => h) q965 40 rfl (by decide) (by decide) 30 (by decide) (40, .inr (.inl (fun j => mj m0 30 j))) rfl (Nat.le_of_ble_eq_true rfl) (Nat.le_of_ble_eq_true rfl) dX2_init_191 (fun q30_ H hI hS => ?_)
  obtain ⟨G, hL, hO, hG, hF⟩ := hI
  refine g_putF X hG hS hin hO (ci := 1) rfl in_X2 tyX2 tyX2_ok nmX2 30 (by decide) q1312 (fun _ h => h) rfl rfl rfl rfl (fs1 := [.int 16, .int 12, .int 2, .int 2, .int 65536, .int 0, .ref q6_, .int 0, .int 0, .ref q9_, .ref q10_, .int 0, .ref q12_, .int 0, .int 0, .int 0, .ref q16_, .ref q17_, .ref q18_, .ref q19_, .ref q20_, .ref q21_, .ref q22_, .ref q23_, .ref q24_, .ref q25_, .ref q26_, .ref q27_, .ref q28_, .ref q29_, .ref q30_, .null, .null, .null, .int 0, .null, .int 0, .null, .null, .int 0, .long 0, .long 0, .long 0, .int 0]) (Nat.le_of_ble_eq_true rfl) rfl dX2_init_193 (fun H locs hG1 hS => ?_)
  have hI : iK K mo _ _ G0 H := ⟨_, hL.put hO, gU_self, hG1, hF.trans (gF.putO hO (by show (0 : Nat) < 10000; decide))⟩
  refine lv_aload_n hx hb dX2_init_196 rfl (lv_at hl 0 rfl) ?_
  refine lv_bipush (v := 40) hx hb dX2_init_197 (by decide) ?_
  refine i_newa X hI hS (atype := .long) 1 rfl (fun _ h => h) q965 40 rfl (by decide) (by decide) 31 (by decide) (40, .inr (.inl (fun j => mj m0 31 j))) rfl (Nat.le_of_ble_eq_true rfl) (Nat.le_of_ble_eq_true rfl) dX2_init_199 (fun q31_ H hI hS => ?_)
  obtain ⟨G, hL, hO, hG, hF⟩ := hI
  refine g_putF X hG hS hin hO (ci := 1) rfl in_X2 tyX2 tyX2_ok nmX2 31 (by decide) q1313 (fun _ h => h) rfl rfl rfl rfl (fs1 := [.int 16, .int 12, .int 2, .int 2, .int 65536, .int 0, .ref q6_, .int 0, .int 0, .ref q9_, .ref q10_, .int 0, .ref q12_, .int 0, .int 0, .int 0, .ref q16_, .ref q17_, .ref q18_, .ref q19_, .ref q20_, .ref q21_, .ref q22_, .ref q23_, .ref q24_, .ref q25_, .ref q26_, .ref q27_, .ref q28_, .ref q29_, .ref q30_, .ref q31_, .null, .null, .int 0, .null, .int 0, .null, .null, .int 0, .long 0, .long 0, .long 0, .int 0]) (Nat.le_of_ble_eq_true rfl) rfl dX2_init_201 (fun H locs hG1 hS => ?_)
  have hI : iK K mo _ _ G0 H := ⟨_, hL.put hO, gU_self, hG1, hF.trans (gF.putO hO (by show (0 : Nat) < 10000; decide))⟩
  refine lv_aload_n hx hb dX2_init_204 rfl (lv_at hl 0 rfl) ?_
  refine lv_bipush (v := 40) hx hb dX2_init_205 (by decide) ?_
  refine i_newa X hI hS (atype := .long) 1 rfl (fun _ h => h) q965 40 rfl (by decide) (by decide) 32 (by decide) (40, .inr (.inl (fun j => mj m0 32 j))) rfl (Nat.le_of_ble_eq_true rfl) (Nat.le_of_ble_eq_true rfl) dX2_init_207 (fun q32_ H hI hS => ?_)
  obtain ⟨G, hL, hO, hG, hF⟩ := hI
  refine g_putF X hG hS hin hO (ci := 1) rfl in_X2 tyX2 tyX2_ok nmX2 32 (by decide) q1314 (fun _ h => h) rfl rfl rfl rfl (fs1 := [.int 16, .int 12, .int 2, .int 2, .int 65536, .int 0, .ref q6_, .int 0, .int 0, .ref q9_, .ref q10_, .int 0, .ref q12_, .int 0, .int 0, .int 0, .ref q16_, .ref q17_, .ref q18_, .ref q19_, .ref q20_, .ref q21_, .ref q22_, .ref q23_, .ref q24_, .ref q25_, .ref q26_, .ref q27_, .ref q28_, .ref q29_, .ref q30_, .ref q31_, .ref q32_, .null, .int 0, .null, .int 0, .null, .null, .int 0, .long 0, .long 0, .long 0, .int 0]) (Nat.le_of_ble_eq_true rfl) rfl dX2_init_209 (fun H locs hG1 hS => ?_)
  have hI : iK K mo _ _ G0 H := ⟨_, hL.put hO, gU_self, hG1, hF.trans (gF.putO hO (by show (0 : Nat) < 10000; decide))⟩
  refine lv_aload_n hx hb dX2_init_212 rfl (lv_at hl 0 rfl) ?_
  refine lv_bipush (v := 8) hx hb dX2_init_213 (by decide) ?_
  refine i_newa X hI hS (atype := .int) 0 rfl (fun _ h => h) q966 8 rfl (by decide) (by decide) 33 (by decide) (8, .inl (fun j => nI (mb m0 33 j))) rfl (Nat.le_of_ble_eq_true rfl) (Nat.le_of_ble_eq_true rfl) dX2_init_215 (fun q33_ H hI hS => ?_)
  obtain ⟨G, hL, hO, hG, hF⟩ := hI
  refine g_putF X hG hS hin hO (ci := 1) rfl in_X2 tyX2 tyX2_ok nmX2 33 (by decide) q1315 (fun _ h => h) rfl rfl rfl rfl (fs1 := [.int 16, .int 12, .int 2, .int 2, .int 65536, .int 0, .ref q6_, .int 0, .int 0, .ref q9_, .ref q10_, .int 0, .ref q12_, .int 0, .int 0, .int 0, .ref q16_, .ref q17_, .ref q18_, .ref q19_, .ref q20_, .ref q21_, .ref q22_, .ref q23_, .ref q24_, .ref q25_, .ref q26_, .ref q27_, .ref q28_, .ref q29_, .ref q30_, .ref q31_, .ref q32_, .ref q33_, .int 0, .null, .int 0, .null, .null, .int 0, .long 0, .long 0, .long 0, .int 0]) (Nat.le_of_ble_eq_true rfl) rfl dX2_init_217 (fun H locs hG1 hS => ?_)
  have hI : iK K mo _ _ G0 H := ⟨_, hL.put hO, gU_self, hG1, hF.trans (gF.putO hO (by show (0 : Nat) < 10000; decide))⟩
  refine lv_aload_n hx hb dX2_init_220 rfl (lv_at hl 0 rfl) ?_
  refine lv_bipush (v := 6) hx hb dX2_init_221 (by decide) ?_
  refine i_newa X hI hS (atype := .int) 0 rfl (fun _ h => h) q966 6 rfl (by decide) (by decide) 35 (by decide) (6, .inl (fun j => nI (mb m0 35 j))) rfl (Nat.le_of_ble_eq_true rfl) (Nat.le_of_ble_eq_true rfl) dX2_init_223 (fun q35_ H hI hS => ?_)
  obtain ⟨G, hL, hO, hG, hF⟩ := hI
  refine g_putF X hG hS hin hO (ci := 1) rfl in_X2 tyX2 tyX2_ok nmX2 35 (by decide) q1317 (fun _ h => h) rfl rfl rfl rfl (fs1 := [.int 16, .int 12, .int 2, .int 2, .int 65536, .int 0, .ref q6_, .int 0, .int 0, .ref q9_, .ref q10_, .int 0, .ref q12_, .int 0, .int 0, .int 0, .ref q16_, .ref q17_, .ref q18_, .ref q19_, .ref q20_, .ref q21_, .ref q22_, .ref q23_, .ref q24_, .ref q25_, .ref q26_, .ref q27_, .ref q28_, .ref q29_, .ref q30_, .ref q31_, .ref q32_, .ref q33_, .int 0, .ref q35_, .int 0, .null, .null, .int 0, .long 0, .long 0, .long 0, .int 0]) (Nat.le_of_ble_eq_true rfl) rfl dX2_init_225 (fun H locs hG1 hS => ?_)
  have hI : iK K mo _ _ G0 H := ⟨_, hL.put hO, gU_self, hG1, hF.trans (gF.putO hO (by show (0 : Nat) < 10000; decide))⟩
  refine lv_aload_n hx hb dX2_init_228 rfl (lv_at hl 0 rfl) ?_
  refine lv_bipush (v := 6) hx hb dX2_init_229 (by decide) ?_
  refine i_newa X hI hS (atype := .int) 0 rfl (fun _ h => h) q966 6 rfl (by decide) (by decide) 37 (by decide) (6, .inl (fun j => ma m0 37 j)) rfl (Nat.le_of_ble_eq_true rfl) (Nat.le_of_ble_eq_true rfl) dX2_init_231 (fun q37_ H hI hS => ?_)
  obtain ⟨G, hL, hO, hG, hF⟩ := hI
  refine g_putF X hG hS hin hO (ci := 1) rfl in_X2 tyX2 tyX2_ok nmX2 37 (by decide) q1319 (fun _ h => h) rfl rfl rfl rfl (fs1 := [.int 16, .int 12, .int 2, .int 2, .int 65536, .int 0, .ref q6_, .int 0, .int 0, .ref q9_, .ref q10_, .int 0, .ref q12_, .int 0, .int 0, .int 0, .ref q16_, .ref q17_, .ref q18_, .ref q19_, .ref q20_, .ref q21_, .ref q22_, .ref q23_, .ref q24_, .ref q25_, .ref q26_, .ref q27_, .ref q28_, .ref q29_, .ref q30_, .ref q31_, .ref q32_, .ref q33_, .int 0, .ref q35_, .int 0, .ref q37_, .null, .int 0, .long 0, .long 0, .long 0, .int 0]) (Nat.le_of_ble_eq_true rfl) rfl dX2_init_233 (fun H locs hG1 hS => ?_)
  have hI : iK K mo _ _ G0 H := ⟨_, hL.put hO, gU_self, hG1, hF.trans (gF.putO hO (by show (0 : Nat) < 10000; decide))⟩
  refine lv_aload_n hx hb dX2_init_236 rfl (lv_at hl 0 rfl) ?_
  refine lv_bipush (v := 6) hx hb dX2_init_237 (by decide) ?_
  refine i_newa X hI hS (atype := .int) 0 rfl (fun _ h => h) q966 6 rfl (by decide) (by decide) 38 (by decide) (6, .inl (fun j => ma m0 38 j)) rfl (Nat.le_of_ble_eq_true rfl) (Nat.le_of_ble_eq_true rfl) dX2_init_239 (fun q38_ H hI hS => ?_)
  obtain ⟨G, hL, hO, hG, hF⟩ := hI
  refine g_putF X hG hS hin hO (ci := 1) rfl in_X2 tyX2 tyX2_ok nmX2 38 (by decide) q1320 (fun _ h => h) rfl rfl rfl rfl (fs1 := [.int 16, .int 12, .int 2, .int 2, .int 65536, .int 0, .ref q6_, .int 0, .int 0, .ref q9_, .ref q10_, .int 0, .ref q12_, .int 0, .int 0, .int 0, .ref q16_, .ref q17_, .ref q18_, .ref q19_, .ref q20_, .ref q21_, .ref q22_, .ref q23_, .ref q24_, .ref q25_, .ref q26_, .ref q27_, .ref q28_, .ref q29_, .ref q30_, .ref q31_, .ref q32_, .ref q33_, .int 0, .ref q35_, .int 0, .ref q37_, .ref q38_, .int 0, .long 0, .long 0, .long 0, .int 0]) (Nat.le_of_ble_eq_true rfl) rfl dX2_init_241 (fun H locs hG1 hS => ?_)
  have hI : iK K mo _ _ G0 H := ⟨_, hL.put hO, gU_self, hG1, hF.trans (gF.putO hO (by show (0 : Nat) < 10000; decide))⟩
  obtain ⟨G, hL, hO, hG, hF⟩ := hI
  refine g_vret X hr hG hS ⟨rfl, iA q6_ q9_ q10_ q12_ q16_ q17_ q18_ q19_ q20_ q21_ q22_ q23_ q24_ q25_ q26_ q27_ q28_ q29_ q30_ q31_ q32_ q33_ q35_ q37_ q38_, ?_, hF⟩ (Nat.le_refl _) (Nat.le_refl _) dX2_init_244
  intro t a x ht
  unfold mC at ht
  split at ht
  · rename_i h; subst h; cases ht; exact hO
  · split at ht
    · unfold mCk at ht
      split at ht
      · cases ht; exact hL.at 24 rfl (⟨rfl, rfl, rfl⟩)
      · cases ht; exact hL.at 23 rfl (⟨rfl, rfl, rfl⟩)
      · cases ht; exact hL.at 22 rfl (⟨rfl, rfl, rfl⟩)
      · cases ht; exact hL.at 21 rfl (⟨rfl, rfl, rfl⟩)
      · cases ht; exact hL.at 20 rfl (⟨rfl, rfl, rfl⟩)
      · cases ht; exact hL.at 19 rfl (⟨rfl, rfl, rfl⟩)
      · cases ht; exact hL.at 18 rfl (⟨rfl, rfl, rfl⟩)
      · cases ht; exact hL.at 17 rfl (⟨rfl, rfl, rfl⟩)
      · cases ht; exact hL.at 16 rfl (⟨rfl, rfl, rfl⟩)
      · cases ht; exact hL.at 15 rfl (⟨rfl, rfl, rfl⟩)
      · cases ht; exact hL.at 14 rfl (⟨rfl, rfl, rfl⟩)
      · cases ht; exact hL.at 13 rfl (⟨rfl, rfl, rfl⟩)
      · cases ht; exact hL.at 12 rfl (⟨rfl, rfl, rfl⟩)
      · cases ht; exact hL.at 11 rfl (Or.inl ⟨rfl, rfl, rfl⟩)
      · cases ht; exact hL.at 10 rfl (Or.inl ⟨rfl, rfl, rfl⟩)
      · cases ht; exact hL.at 9 rfl (Or.inl ⟨rfl, rfl, rfl⟩)
      · cases ht; exact hL.at 8 rfl (⟨rfl, rfl, rfl⟩)
      · cases ht; exact hL.at 7 rfl (⟨rfl, rfl, rfl⟩)
      · cases ht; exact hL.at 6 rfl (⟨rfl, rfl, rfl⟩)
      · cases ht; exact hL.at 5 rfl (⟨rfl, rfl, rfl⟩)
      · cases ht; exact hL.at 4 rfl (⟨rfl, rfl, rfl⟩)
      · cases ht; exact hL.at 3 rfl (⟨rfl, rfl, rfl⟩)
      · cases ht; exact hL.at 2 rfl (⟨rfl, rfl, rfl⟩)
      · cases ht; exact hL.at 1 rfl (⟨rfl, rfl, rfl⟩)
      · cases ht; exact hL.at 0 rfl (⟨rfl, rfl, rfl⟩)
      · cases ht
    · unfold mCr at ht
      split at ht
      · cases ht; exact hL.at 11 rfl (Or.inr ⟨t - 100, by omega, rfl, by dsimp only; omega, rfl⟩)
      · split at ht
        · cases ht
        · split at ht
          · cases ht; exact hL.at 10 rfl (Or.inr ⟨t - 200, by omega, Or.inl ⟨rfl, by dsimp only; omega, rfl⟩⟩)
          · split at ht
            · cases ht
            · split at ht
              · cases ht; exact hL.at 9 rfl (Or.inr ⟨t - 300, by omega, Or.inl ⟨rfl, by dsimp only; omega, rfl⟩⟩)
              · split at ht
                · cases ht
                · split at ht
                  · cases ht; exact hL.at 10 rfl (Or.inr ⟨(t - 1000) / 64, by omega, Or.inr ⟨(t - 1000) % 64, by omega, rfl, by dsimp only; omega, rfl⟩⟩)
                  · split at ht
                    · cases ht
                    · split at ht
                      · cases ht; exact hL.at 9 rfl (Or.inr ⟨(t - 4000) / 64, by omega, Or.inr ⟨(t - 4000) % 64, by omega, rfl, by dsimp only; omega, rfl⟩⟩)
                      · cases ht
