/-! references: stores, copies, clones, casts, class objects, statics -/
set_option maxRecDepth 100000
/-- an object of class C: of the world, or a small box -/
def gObj (K : gK) (G : gT) (C : String) (v : Nat) : Prop := (∃ (t ci : Nat) (fs : List Value) (r : vw_C), G v = some (t, .inr (ci, fs)) ∧ gcl[ci]? = some r ∧ r.1 = C) ∨ (C = "java/lang/Integer" ∧ ∃ k, k < 256 ∧ v = kI K k) ∨ (C = "java/lang/Long" ∧ ∃ k, k < 256 ∧ v = kL K k)
theorem gObj.mk {K : gK} {G : gT} {v t ci : Nat} {fs : List Value} {r : vw_C} (h : G v = some (t, .inr (ci, fs))) (hc : gcl[ci]? = some r) : gObj K G r.1 v := Or.inl ⟨t, ci, fs, r, h, hc, rfl⟩
theorem gObj.fr {K : gK} {G G1 : gT} {S : Nat → Prop} {C : String} {v : Nat} (h : gObj K G C v) (hF : gF S G G1) : gObj K G1 C v := by
  rcases h with ⟨t, ci, fs, r, h1, h2, h3⟩ | h | h
  · obtain ⟨fs1, e⟩ := hF.2 v t ci fs h1
    exact Or.inl ⟨t, ci, fs1, r, e, h2, h3⟩
  · exact Or.inr (Or.inl h)
  · exact Or.inr (Or.inr h)
/-- the list of the world's cells -/
def gL (G : gT) (n : Nat) : va_W := (List.range n).filterMap fun a => (G a).map fun x => (a, x.2)
theorem gL_at {G : gT} {n a t : Nat} {e : va_E} (h : G a = some (t, e)) (ha : a < n) : ∃ i : Nat, (gL G n)[i]? = some (a, e) := by
  have hm : (a, e) ∈ gL G n := List.mem_filterMap.mpr ⟨a, List.mem_range.mpr ha, by rw [h]; rfl⟩
  obtain ⟨i, hi, he⟩ := List.getElem_of_mem hm
  exact ⟨i, by rw [List.getElem?_eq_getElem hi, he]⟩
theorem gL_of {G : gT} {n i a : Nat} {e : va_E} (h : (gL G n)[i]? = some (a, e)) : (∃ t, G a = some (t, e)) ∧ a < n := by
  have hm : (a, e) ∈ gL G n := List.mem_of_getElem? h
  obtain ⟨b, hb, hx⟩ := List.mem_filterMap.mp hm
  cases hg : G b with
  | none => rw [hg] at hx; cases hx
  | some x => rw [hg] at hx; cases hx; exact ⟨⟨x.1, hg⟩, List.mem_range.mp hb⟩
theorem gL_nd {G : gT} {n : Nat} : ∀ (i j : Nat) (p q : Nat × va_E), (gL G n)[i]? = some p → (gL G n)[j]? = some q → p.1 = q.1 → i = j := by
  have hp : (gL G n).Pairwise (fun p q => p.1 < q.1) := by
    unfold gL
    rw [List.pairwise_filterMap]
    refine List.Pairwise.imp ?_ (List.pairwise_lt_range (n := n))
    intro a b hab x hx y hy
    cases ha : G a with
    | none => rw [ha] at hx; cases hx
    | some u =>
      cases hb : G b with
      | none => rw [hb] at hy; cases hy
      | some w =>
        rw [ha] at hx
        rw [hb] at hy
        cases hx
        cases hy
        exact hab
  have key : ∀ (i j : Nat) (p q : Nat × va_E), (gL G n)[i]? = some p → (gL G n)[j]? = some q → i < j → p.1 < q.1 := by
    intro i j p q hi hj hij
    obtain ⟨hi1, hi2⟩ := List.getElem?_eq_some_iff.mp hi
    obtain ⟨hj1, hj2⟩ := List.getElem?_eq_some_iff.mp hj
    have := List.pairwise_iff_getElem.mp hp i j hi1 hj1 hij
    rw [hi2, hj2] at this
    exact this
  intro i j p q hi hj he
  rcases Nat.lt_trichotomy i j with h | h | h
  · exact absurd (key i j p q hi hj h) (by omega)
  · exact h
  · exact absurd (key j i q p hj hi h) (by omega)
theorem gL_P {K : gK} {G : gT} {H : Heap} (h : gH K G H) : va_P (kD K) gcl (gL G H.size) H := fun i q hq => by
  obtain ⟨⟨t, ht⟩, -⟩ := gL_of (a := q.1) (e := q.2) hq
  exact h.1 _ t _ ht
theorem gL_D {K : gK} {G : gT} {H : Heap} (h : gH K G H) : va_D (gA K) (gL G H.size) := ⟨gL_nd, fun i q hq => by
  obtain ⟨⟨t, ht⟩, -⟩ := gL_of (a := q.1) (e := q.2) hq
  exact h.ge ht⟩
theorem gL_set {K : gK} {G : gT} {H H1 : Heap} {n : Nat} (hz : kB K ≤ H1.size) (h : gH K G H) {i a t : Nat} {e e1 : va_E} (hn : n = H.size) (ha : G a = some (t, e)) (hi : (gL G n)[i]? = some (a, e)) (hP : va_P (kD K) gcl ((gL G n).set i (a, e1)) H1) : gH K (gU G a t e1) H1 := by
  subst hn
  obtain ⟨hil, -⟩ := List.getElem?_eq_some_iff.mp hi
  refine ⟨fun b u x hb => ?_, fun b hb => ?_, hz⟩
  · by_cases hba : b = a
    · subst hba
      rw [gU_self] at hb
      cases hb
      exact hP i _ (by rw [List.getElem?_set_self hil])
    · rw [gU_ne hba] at hb
      obtain ⟨j, hj⟩ := gL_at hb (h.lt hb)
      have hij : i ≠ j := fun q => by rw [q, hj] at hi; cases hi; exact hba rfl
      exact hP j _ (by rw [List.getElem?_set_ne hij]; exact hj)
  · have h1 := h.ge ha
    have hne : b ≠ a := fun e => absurd hb (Nat.not_lt.mpr (by rw [e]; exact h1))
    rw [gU_ne hne]
    exact h.2.1 b hb
section RF
variable {p : Program} {l : Launch} {e : Env} {R : Room} {s : State} {m : MethodId} {args : Array Value} {below : List Frame} {meth : Method} {c : Code} {H : Heap} {locs : List Loc} {cells slots : Nat} {Q : State → Prop}
variable {cc : ByteArray} {pc : Nat} {ls : Array Slot} {rest : List Value} {K : gK} {own : String} {nL : Nat} {G : gT}
theorem gObj.recv (X : gC K p s m args meth c cc nL own) (hG : gH K G H) (hS : va_S (gA K) s.heap H locs) {C : String} {v : Nat} (h : gObj K G C v) : ∃ cell : Cell, H[v]? = some cell ∧ cell.vm.isStatics = false ∧ s.vm.findClass C = some cell.cls := by
  have hO : ∀ {E : String} {t : Nat}, va_O E t (gA K) s s.heap → ∃ cell : Cell, H[t]? = some cell ∧ cell.vm.isStatics = false ∧ s.vm.findClass E = some cell.cls := by
    intro E t ⟨cl0, h1, h2, h3, h4⟩
    exact ⟨cl0, by rw [hS.2.1 t (Array.getElem?_eq_some_iff.mp h1).1 h4]; exact h1, h2, h3⟩
  rcases h with ⟨t, ci, fs, r, h1, h2, h3⟩ | ⟨rfl, k, hk, rfl⟩ | ⟨rfl, k, hk, rfl⟩
  · exact gRecv X hG h1 h2 h3
  · exact hO (X.2.1.2.1.1.1 k hk)
  · exact hO (X.2.1.2.1.2.2.2.2.1 k hk)
theorem gAny (X : gC K p s m args meth c cc nL own) (hG : gH K G H) (hS : va_S (gA K) s.heap H locs) {C E : String} {v : Nat} (h : gObj K G C v) (hcE : C = E ∨ (C, E) ∈ gcast) : va_Any E s H v := by
  obtain ⟨cell, h1, h2, h3⟩ := h.recv X hG hS
  obtain ⟨kC, hkC, -⟩ := Vm.findClass_spec h3
  refine ⟨cell, h1, h2, ⟨kC, hkC⟩, fun comp hc => ?_⟩
  rcases hcE with rfl | hcE
  · exact vb_asgS comp _ hc h3
  · exact vb_asgC (X.2.1.2.2.2.1.1 _ hcE) comp _ hc h3
theorem g_aast (X : gC K p s m args meth c cc nL own) (hG : gH K G H) (hS : va_S (gA K) s.heap H locs) {a t n v : Nat} (k : Nat) {cA : ClassId} {E : String} (hk : (gty K)[k]? = some (cA, .object E)) {f : Nat → Option Nat} (h : G a = some (t, .inl (cA, n, .inr (.inr (.inr (.inr f)))))) (hr : va_Any E s H v) {i : Int32} {j : Nat} (hi : i = nI j) (hj : j < n) (hb : j < 2147483648) (hdg : decode cc pc = .ok (.aastore, 1))
    (kk : ∀ (H1 : Heap) (locs1 : List Loc), gH K (gU G a t (.inl (cA, n, .inr (.inr (.inr (.inr (va_up f j (some v)))))))) H1 → va_S (gA K) s.heap H1 locs1 → W p l e R s m args below meth c H1 locs1 cells slots Q (F0 m (pc + 1) ls rest)) : W p l e R s m args below meth c H locs cells slots Q (F0 m pc ls (.ref v :: .int i :: .ref a :: rest)) := by
  have hin := g_vin hi hj hb
  have hlt : i.toNatClampNeg < n := by rw [g_at hi hb]; exact hj
  have h0 : ¬ i < 0 := fun q => hin (Or.inl q)
  obtain ⟨cellV, g1, g3, ⟨kC, hkC⟩, hasg⟩ := hr
  obtain ⟨kA, comp, k1, k2, k3, -⟩ := (X.2.1.1.2 k _ hk).2
  obtain ⟨kE, hkE, -⟩ := Vm.findClass_spec k3
  refine W.aast X.1.1 X.1.2.1 (hG.1 a t _ h) (fun q h => by cases h) (fun h => by cases h) k1 k2 rfl hkE ⟨h0, by show _ < (arrV _ _ _).slots.size; rw [arrV_size]; exact hlt⟩ g1 (fun q h => by rw [h] at g3; cases g3) hkC (hasg _ k3) rfl rfl hdg fun H1 e z oq => ?_
  refine kk H1 _ (hG.put h ?_ z oq) (gS.put hS hG h z oq)
  show H1[a]? = some (vp_cell _ _)
  rw [e, g_at hi hb]
  rw [vp_cell_q, vp_cell_q, arrV_store]
  congr 2
  funext q
  by_cases hq : q = j
  · subst hq
    simp [updV, va_up, va_rf]
  · simp [updV, va_up, hq]
theorem g_aastN (X : gC K p s m args meth c cc nL own) (hG : gH K G H) (hS : va_S (gA K) s.heap H locs) {a t n : Nat} (k : Nat) {cA : ClassId} {E : String} (hk : (gty K)[k]? = some (cA, .object E)) {f : Nat → Option Nat} (h : G a = some (t, .inl (cA, n, .inr (.inr (.inr (.inr f)))))) {i : Int32} {j : Nat} (hi : i = nI j) (hj : j < n) (hb : j < 2147483648) (hdg : decode cc pc = .ok (.aastore, 1))
    (kk : ∀ (H1 : Heap) (locs1 : List Loc), gH K (gU G a t (.inl (cA, n, .inr (.inr (.inr (.inr (va_up f j none))))))) H1 → va_S (gA K) s.heap H1 locs1 → W p l e R s m args below meth c H1 locs1 cells slots Q (F0 m (pc + 1) ls rest)) : W p l e R s m args below meth c H locs cells slots Q (F0 m pc ls (.null :: .int i :: .ref a :: rest)) := by
  have hin := g_vin hi hj hb
  refine va_WaastN (C := E) X.1.1 X.1.2.1 (hG.1 a t _ h) ((X.2.1.1.2 k _ hk).1 n (fun j => va_rf (f j))) (fun h => by cases h) (by show ¬ (i < 0 ∨ (arrV _ _ _).slots.size ≤ _); rw [arrV_size]; exact hin) rfl rfl hdg fun H1 e z oq => ?_
  refine kk H1 _ (hG.put h ?_ z oq) (gS.put hS hG h z oq)
  show H1[a]? = some (vp_cell _ _)
  rw [e, g_at hi hb]
  rw [vp_cell_q, vp_cell_q, arrV_store]
  congr 2
  funext q
  by_cases hq : q = j
  · subst hq
    simp [updV, va_up, va_rf]
  · simp [updV, va_up, hq]
/-- System.arraycopy between rows of objects -/
theorem g_copy (X : gC K p s m args meth c cc nL own) (hG : gH K G H) (hS : va_S (gA K) s.heap H locs) (hl : ls.size = nL) {index : Nat} (hlink : Cond.methodLink own index arraycopyName ∈ lw_all) (hnat : Cond.native arraycopyName ∈ lw_all) (hstat : Cond.static arraycopyName ∈ lw_all) (hini : Cond.initialized "java/lang/System" ∈ lw_all)
    {a0 a t0 t n0 n1 : Nat} {f g : Nat → Option Nat} (h0 : G a0 = some (t0, .inl (kA K 3, n0, .inr (.inr (.inr (.inr f)))))) (h1 : G a = some (t, .inl (kA K 3, n1, .inr (.inr (.inr (.inr g)))))) {sp dp n : Int32} {x y z : Nat} (hx : sp = nI x) (hy : dp = nI y) (hz : n = nI z) (bx : x < 2147483648) (by0 : y < 2147483648) (bz : z < 2147483648) (h4 : x + z ≤ n0) (h5 : y + z ≤ n1)
    (hel : ∀ i : Nat, i < z → ∀ v : Nat, f (x + i) = some v → va_Any "java/lang/Object" s H v) (hframes : 1 ≤ R.frames) (hlocals : (rest.map fun v => v.category).sum + (nativeFrameWords "java/lang/System" "arraycopy" 5 + 11) ≤ R.locals) (hdg : decode cc pc = .ok (.invokestatic index, 3))
    (kk : ∀ (H1 : Heap) (locs1 : List Loc), gH K (gU G a t (.inl (kA K 3, n1, .inr (.inr (.inr (.inr (va_cpy f g x y z))))))) H1 → va_S (gA K) s.heap H1 locs1 → W p l e R s m args below meth c H1 locs1 cells slots Q (F0 m (pc + 3) ls rest)) : W p l e R s m args below meth c H locs cells slots Q (F0 m pc ls (.int n :: .int dp :: .ref a :: .int sp :: .ref a0 :: rest)) := by
  subst hx
  subst hy
  subst hz
  have c1 : (nI x).toNatClampNeg = x := nI_clamp bx
  have c2 : (nI y).toNatClampNeg = y := nI_clamp by0
  have c3 : (nI z).toNatClampNeg = z := nI_clamp bz
  obtain ⟨q0, hq0⟩ := gL_at h0 (hG.lt h0)
  obtain ⟨q1, hq1⟩ := gL_at h1 (hG.lt h1)
  refine va_copyM X.1.1 X.1.2.1 (X.1.2.2.1.trans hl.symm) X.1.2.2.2.1 (X.1.2.2.2.2 _ hlink) (X.1.2.2.2.2 _ hnat) (X.1.2.2.2.2 _ hstat) (X.1.2.2.2.2 _ hini) X.2.1.1 (gL_P hG) (gL_D hG) hS q0 q1 3 3 hq0 hq1 rfl rfl (nI_pos bx) (nI_pos by0) (nI_pos bz) (by rw [c1, c3]; exact h4) (by rw [c2, c3]; exact h5) (fun i hi v hv => hel i (by rw [c3] at hi; exact hi) v (by rw [c1] at hv; exact hv)) hframes hlocals hdg (fun H1 locs1 hP hD hS1 => ?_)
  rw [c1, c2, c3] at hP
  exact kk H1 locs1 (gL_set (Nat.le_trans X.2.2.1 hS1.1) hG rfl h1 hq1 hP) hS1
/-- .. from the empty row of the start -/
theorem g_copyE (X : gC K p s m args meth c cc nL own) (hG : gH K G H) (hS : va_S (gA K) s.heap H locs) (hl : ls.size = nL) {index : Nat} (hlink : Cond.methodLink own index arraycopyName ∈ lw_all) (hnat : Cond.native arraycopyName ∈ lw_all) (hstat : Cond.static arraycopyName ∈ lw_all) (hini : Cond.initialized "java/lang/System" ∈ lw_all)
    {a t n1 : Nat} {g : Nat → Option Nat} (h1 : G a = some (t, .inl (kA K 3, n1, .inr (.inr (.inr (.inr g)))))) (hframes : 1 ≤ R.frames) (hlocals : (rest.map fun v => v.category).sum + (nativeFrameWords "java/lang/System" "arraycopy" 5 + 11) ≤ R.locals) (hdg : decode cc pc = .ok (.invokestatic index, 3))
    (kk : ∀ (H1 : Heap) (locs1 : List Loc), gH K G H1 → va_S (gA K) s.heap H1 locs1 → W p l e R s m args below meth c H1 locs1 cells slots Q (F0 m (pc + 3) ls rest)) : W p l e R s m args below meth c H locs cells slots Q (F0 m pc ls (.int 0 :: .int 0 :: .ref a :: .int 0 :: .ref (kE K) :: rest)) := by
  obtain ⟨q1, hq1⟩ := gL_at h1 (hG.lt h1)
  refine va_copyg X.1.1 X.1.2.1 (X.1.2.2.1.trans hl.symm) X.1.2.2.2.1 (X.1.2.2.2.2 _ hlink) (X.1.2.2.2.2 _ hnat) (X.1.2.2.2.2 _ hstat) (X.1.2.2.2.2 _ hini) X.2.1.1 (gL_P hG) (gL_D hG) hS q1 3 X.2.1.2.2.1.2.1 hq1 rfl (by decide) (by decide) (by decide) (by decide) (Nat.zero_le _) hframes hlocals hdg (fun H1 locs1 hP hD hS1 => ?_)
  refine kk H1 locs1 ?_ hS1
  have h2 := gL_set (Nat.le_trans X.2.2.1 hS1.1) hG rfl h1 hq1 hP
  have e1 : va_cpy (fun _ => (none : Option Nat)) g (0 : Int32).toNatClampNeg (0 : Int32).toNatClampNeg (0 : Int32).toNatClampNeg = g := by
    funext k
    unfold va_cpy
    have z : (0 : Int32).toNatClampNeg = 0 := by decide
    rw [z, if_neg (by omega)]
  rw [e1] at h2
  have e2 : gU G a t (.inl (kA K 3, n1, .inr (.inr (.inr (.inr g))))) = G := by
    funext b
    by_cases hb : b = a
    · subst hb; rw [gU_self, h1]
    · rw [gU_ne hb]
  rw [e2] at h2
  exact h2
/-- a row of ints cloned -/
theorem g_clone (X : gC K p s m args meth c cc nL own) (hG : gH K G H) (hS : va_S (gA K) s.heap H locs) (hl : ls.size = nL) {index : Nat} (hlink : Cond.methodLink own index ⟨"[I", "clone", "()Ljava/lang/Object;"⟩ ∈ lw_all) (hsame : Cond.sameMethod "[I" "java/lang/Object" "clone" "()Ljava/lang/Object;" ∈ lw_all)
    (hnat : Cond.native ⟨"java/lang/Object", "clone", "()Ljava/lang/Object;"⟩ ∈ lw_all) (hinst : Cond.instanceMethod ⟨"java/lang/Object", "clone", "()Ljava/lang/Object;"⟩ ∈ lw_all) (hsel : Cond.selects "[I" ⟨"[I", "clone", "()Ljava/lang/Object;"⟩ ⟨"java/lang/Object", "clone", "()Ljava/lang/Object;"⟩ ∈ lw_all)
    {a t n : Nat} {f : Nat → Int32} (h : G a = some (t, .inl (kA K 0, n, .inl f))) (t1 : Nat) (hframes : 1 ≤ R.frames) (hlocals : (rest.map fun v => v.category).sum + 14 ≤ R.locals) (hcells : cells + 1 ≤ R.cells) (hslots : slots + n ≤ R.slots) (hdg : decode cc pc = .ok (.invokevirtual index, 3))
    (kk : ∀ (q : Nat) (H1 : Heap), G q = none → gA K q → gH K (gU G q t1 (.inl (kA K 0, n, .inl f))) H1 → va_S (gA K) s.heap H1 locs → W p l e R s m args below meth c H1 locs (cells + 1) (slots + n) Q (F0 m (pc + 3) ls (.ref q :: rest))) : W p l e R s m args below meth c H locs cells slots Q (F0 m pc ls (.ref a :: rest)) := by
  obtain ⟨q0, hq0⟩ := gL_at h (hG.lt h)
  have hlt := hG.lt h
  refine va_clone X.1.1 X.1.2.1 (X.1.2.2.1.trans hl.symm) X.1.2.2.2.1 (X.1.2.2.2.2 _ hlink) (X.1.2.2.2.2 _ hsame) (X.1.2.2.2.2 _ hnat) (X.1.2.2.2.2 _ hinst) (X.1.2.2.2.2 _ hsel) (X.2.1.2.2.2.1.1 ("[I", "java/lang/Cloneable") (by decide)) X.2.1.1 (gL_P hG) (gL_D hG) hS (gA_new X.2.2.1) q0 0 hq0 rfl X.2.1.2.2.2.2.2.2 (fun i v hv => va_fit (fun _ _ => rfl) i v hv) hframes hlocals hcells hslots hdg (fun q H1 hK hP hD hS1 => ?_)
  have hq : (gL G H.size ++ [(q, (.inl (kA K 0, n, .inl f) : va_E))])[(gL G H.size).length]? = some (q, .inl (kA K 0, n, .inl f)) := by simp
  have hn : G q = none := by
    cases hg : G q with
    | none => rfl
    | some x =>
      obtain ⟨i, hi⟩ := gL_at (t := x.1) (e := x.2) hg (hG.lt (t := x.1) (e := x.2) hg)
      have hil := (List.getElem?_eq_some_iff.mp hi).1
      have := hD.1 i _ (q, x.2) _ (by rw [List.getElem?_append_left hil]; exact hi) hq rfl
      exact absurd this (by omega)
  refine kk q H1 hn (hD.2 _ _ hq) ⟨fun b u x hb => ?_, fun b hb => ?_, Nat.le_trans X.2.2.1 hS1.1⟩ hS1
  · by_cases hbq : b = q
    · subst hbq
      rw [gU_self] at hb
      cases hb
      exact hP _ _ hq
    · rw [gU_ne hbq] at hb
      obtain ⟨i, hi⟩ := gL_at hb (hG.lt hb)
      have hil := (List.getElem?_eq_some_iff.mp hi).1
      exact hP i _ (by rw [List.getElem?_append_left hil]; exact hi)
  · have hne : b ≠ q := fun e => absurd hb (Nat.not_lt.mpr (by rw [e]; exact hD.2 _ _ hq))
    rw [gU_ne hne]
    exact hG.2.1 b hb
theorem g_gets (X : gC K p s m args meth c cc nL own) (hS : va_S (gA K) s.heap H locs) {C n d ref : String} {v : Value} {index : Nat} (hZ : va_Z C n d v (gA K) s s.heap) (hlink : Cond.fieldLink own index ref n d ∈ lw_all) (hsame : ∀ x, s.fieldFound? C n d = some x → s.fieldFound? ref n d = some x) (hdg : decode cc pc = .ok (.getstatic index, 3))
    (kk : W p l e R s m args below meth c H locs cells slots Q (F0 m (pc + 3) ls (v :: rest))) : W p l e R s m args below meth c H locs cells slots Q (F0 m pc ls rest) :=
  va_gets X.1.1 X.1.2.1 hZ hS X.1.2.2.2.1 (X.1.2.2.2.2 _ hlink) hsame hdg kk
theorem g_castE (X : gC K p s m args meth c cc nL own) (hG : gH K G H) (hS : va_S (gA K) s.heap H locs) {C : String} {a index : Nat} (ho : gObj K G C a) (hlink : Cond.classLink own index C ∈ lw_all) (hdg : decode cc pc = .ok (.checkcast index, 3))
    (kk : W p l e R s m args below meth c H locs cells slots Q (F0 m (pc + 3) ls (.ref a :: rest))) : W p l e R s m args below meth c H locs cells slots Q (F0 m pc ls (.ref a :: rest)) :=
  va_castE X.1.1 X.1.2.1 X.1.2.2.2.1 (X.1.2.2.2.2 _ hlink) (ho.recv X hG hS) hdg kk
theorem g_instE (X : gC K p s m args meth c cc nL own) (hG : gH K G H) (hS : va_S (gA K) s.heap H locs) {C : String} {a index : Nat} (ho : gObj K G C a) (hlink : Cond.classLink own index C ∈ lw_all) (hdg : decode cc pc = .ok (.instanceof index, 3))
    (kk : W p l e R s m args below meth c H locs cells slots Q (F0 m (pc + 3) ls (.int 1 :: rest))) : W p l e R s m args below meth c H locs cells slots Q (F0 m pc ls (.ref a :: rest)) :=
  va_instE X.1.1 X.1.2.1 X.1.2.2.2.1 (X.1.2.2.2.2 _ hlink) (ho.recv X hG hS) hdg kk
theorem g_instNo (X : gC K p s m args meth c cc nL own) (hG : gH K G H) (hS : va_S (gA K) s.heap H locs) {C nm : String} {a index : Nat} (ho : gObj K G C a) (hc : (C, nm) ∈ gncast) (hlink : Cond.classLink own index nm ∈ lw_all) (hdg : decode cc pc = .ok (.instanceof index, 3))
    (kk : W p l e R s m args below meth c H locs cells slots Q (F0 m (pc + 3) ls (.int 0 :: rest))) : W p l e R s m args below meth c H locs cells slots Q (F0 m pc ls (.ref a :: rest)) :=
  va_instNo X.1.1 X.1.2.1 X.1.2.2.2.1 (X.1.2.2.2.2 _ hlink) (X.2.1.2.2.2.1.2.2.1 _ hc) (ho.recv X hG hS) hdg kk
theorem g_castA (X : gC K p s m args meth c cc nL own) (hG : gH K G H) {nm : String} {a t index : Nat} {cA : ClassId} {x : vp_A} (h : G a = some (t, .inl (cA, x))) (hnm : s.vm.findClass nm = some cA) (hlink : Cond.classLink own index nm ∈ lw_all) (hdg : decode cc pc = .ok (.checkcast index, 3))
    (kk : W p l e R s m args below meth c H locs cells slots Q (F0 m (pc + 3) ls (.ref a :: rest))) : W p l e R s m args below meth c H locs cells slots Q (F0 m pc ls (.ref a :: rest)) :=
  va_castA X.1.1 X.1.2.1 X.1.2.2.2.1 (X.1.2.2.2.2 _ hlink) (g_one hG h) 0 rfl hnm hdg kk
theorem g_ldcM (X : gC K p s m args meth c cc nL own) {index : Nat} (hlink : Cond.classLink own index "[Ljava/lang/Object;" ∈ lw_all) (hdg : decode cc pc = .ok (.ldc index, 2))
    (kk : W p l e R s m args below meth c H locs cells slots Q (F0 m (pc + 2) ls (.ref (kM K) :: rest))) : W p l e R s m args below meth c H locs cells slots Q (F0 m pc ls rest) :=
  va_ldcM X.1.1 X.1.2.1 X.1.2.2.2.1 (X.1.2.2.2.2 _ hlink) X.2.1.2.2.2.2.1 hdg kk
theorem g_oRow (X : gC K p s m args meth c cc nL own) (hG : gH K G H) {a t : Nat} {x : vp_A} (h : G a = some (t, .inl (kA K 3, x))) : ∃ cell : Cell, H[a]? = some cell ∧ cell.vm.isStatics = false ∧ s.vm.findClass "[Ljava/lang/Object;" = some cell.cls := by
  have hnm : s.vm.findClass "[Ljava/lang/Object;" = some (kA K 3) := va_nmO (X.2.1.1.2 3 _ rfl).2 (by decide +kernel)
  refine ⟨vp_cell (kA K 3) x, hG.1 a t _ h, ?_, ?_⟩
  · obtain ⟨n, f | f | f | f | f⟩ := x <;> rfl
  · rw [hnm]
    obtain ⟨n, f | f | f | f | f⟩ := x <;> rfl
end RF
