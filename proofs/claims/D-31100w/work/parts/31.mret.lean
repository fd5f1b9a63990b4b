/-! ends of the reference's methods -/
section MRET
variable {p : Program} {l : Launch} {e : Env} {R : Room} {s : State} {m : MethodId} {args : Array Value} {below : List Frame} {meth : Method} {c : Code} {H : Heap} {locs : List Loc} {cells slots mc ms : Nat}
variable {cc : ByteArray} {pc : Nat} {ls : Array Slot} {K : gK} {nL : Nat} {G0 : gT} {own : String} {mo : Nat} {A : mA} {σ σ1 : mS} {v : Option Value}
theorem m_iret (X : gC K p s m args meth c cc nL own) (hr : meth.sig.returnType = some .int) (hM : mH K mo A σ G0 H) (hS : va_S (gA K) s.heap H locs) {x : Int32} (hv : some (Value.int x) = v) (hs : σ = σ1) (hc : cells ≤ mc) (hsl : slots ≤ ms) (hdg : decode cc pc = .ok (.ireturn, 1)) : W p l e R s m args below meth c H locs cells slots (MQ below (gQ K (fun w G1 => w = v ∧ mR K mo A σ1 G1 ∧ gF mT G0 G1)) args s mc ms (gA K)) (F0 m pc ls [.int x]) := by
  obtain ⟨G, hR, hG, hF⟩ := hM
  exact g_iret X hr hG hS ⟨hv, hs ▸ hR, hF⟩ hc hsl hdg
theorem m_zret (X : gC K p s m args meth c cc nL own) (hr : meth.sig.returnType = some .boolean) (hM : mH K mo A σ G0 H) (hS : va_S (gA K) s.heap H locs) {x : Int32} (hn : narrow .boolean (.int x) = .int x) (hv : some (Value.int x) = v) (hs : σ = σ1) (hc : cells ≤ mc) (hsl : slots ≤ ms) (hdg : decode cc pc = .ok (.ireturn, 1)) : W p l e R s m args below meth c H locs cells slots (MQ below (gQ K (fun w G1 => w = v ∧ mR K mo A σ1 G1 ∧ gF mT G0 G1)) args s mc ms (gA K)) (F0 m pc ls [.int x]) := by
  obtain ⟨G, hR, hG, hF⟩ := hM
  exact g_zret X hr hG hS hn ⟨hv, hs ▸ hR, hF⟩ hc hsl hdg
theorem m_lret (X : gC K p s m args meth c cc nL own) (hr : meth.sig.returnType = some .long) (hM : mH K mo A σ G0 H) (hS : va_S (gA K) s.heap H locs) {x : Int64} (hv : some (Value.long x) = v) (hs : σ = σ1) (hc : cells ≤ mc) (hsl : slots ≤ ms) (hdg : decode cc pc = .ok (.lreturn, 1)) : W p l e R s m args below meth c H locs cells slots (MQ below (gQ K (fun w G1 => w = v ∧ mR K mo A σ1 G1 ∧ gF mT G0 G1)) args s mc ms (gA K)) (F0 m pc ls [.long x]) := by
  obtain ⟨G, hR, hG, hF⟩ := hM
  exact g_lret X hr hG hS ⟨hv, hs ▸ hR, hF⟩ hc hsl hdg
theorem m_fret (X : gC K p s m args meth c cc nL own) (hr : meth.sig.returnType = some .float) (hM : mH K mo A σ G0 H) (hS : va_S (gA K) s.heap H locs) {x : UInt32} (hv : some (Value.float x) = v) (hs : σ = σ1) (hc : cells ≤ mc) (hsl : slots ≤ ms) (hdg : decode cc pc = .ok (.freturn, 1)) : W p l e R s m args below meth c H locs cells slots (MQ below (gQ K (fun w G1 => w = v ∧ mR K mo A σ1 G1 ∧ gF mT G0 G1)) args s mc ms (gA K)) (F0 m pc ls [.float x]) := by
  obtain ⟨G, hR, hG, hF⟩ := hM
  exact g_fret X hr hG hS ⟨hv, hs ▸ hR, hF⟩ hc hsl hdg
theorem m_dret (X : gC K p s m args meth c cc nL own) (hr : meth.sig.returnType = some .double) (hM : mH K mo A σ G0 H) (hS : va_S (gA K) s.heap H locs) {x : UInt64} (hv : some (Value.double x) = v) (hs : σ = σ1) (hc : cells ≤ mc) (hsl : slots ≤ ms) (hdg : decode cc pc = .ok (.dreturn, 1)) : W p l e R s m args below meth c H locs cells slots (MQ below (gQ K (fun w G1 => w = v ∧ mR K mo A σ1 G1 ∧ gF mT G0 G1)) args s mc ms (gA K)) (F0 m pc ls [.double x]) := by
  obtain ⟨G, hR, hG, hF⟩ := hM
  exact g_dret X hr hG hS ⟨hv, hs ▸ hR, hF⟩ hc hsl hdg
theorem m_vret (X : gC K p s m args meth c cc nL own) (hr : meth.sig.returnType = none) (hM : mH K mo A σ G0 H) (hS : va_S (gA K) s.heap H locs) (hv : none = v) (hs : σ = σ1) (hc : cells ≤ mc) (hsl : slots ≤ ms) (hdg : decode cc pc = .ok (.return_, 1)) : W p l e R s m args below meth c H locs cells slots (MQ below (gQ K (fun w G1 => w = v ∧ mR K mo A σ1 G1 ∧ gF mT G0 G1)) args s mc ms (gA K)) (F0 m pc ls []) := by
  obtain ⟨G, hR, hG, hF⟩ := hM
  exact g_vret X hr hG hS ⟨hv, hs ▸ hR, hF⟩ hc hsl hdg
end MRET
section PC
variable {p : Program} {l : Launch} {e : Env} {R : Room} {s : State} {m : MethodId} {args : Array Value} {below : List Frame} {meth : Method} {c : Code} {H : Heap} {locs : List Loc} {cells slots : Nat} {Q : State → Prop}
variable {cc : ByteArray} {pc : Nat} {ls : Array Slot} {rest st : List Value} {K : gK} {own : String} {nL : Nat} {G : gT} {L : List (Nat × Value)}
variable {y : MethodName} {bytes : ByteArray} {maxL index f o : Nat} {ret : Option FieldType} {As : List Value} {v : Option Value}
theorem p_call (X : gC K p s m args meth c cc nL own) (hC : pMet l K y bytes maxL ret f o As v) {n : Nat} (hd : gPar y n) (hn : As.length = n) (h1 : Cond.methodLink own index y ∈ lw_all) (h2 : Cond.static y ∈ lw_all) (h4 : Cond.initialized y.cls ∈ lw_all) (h5 : Cond.code y bytes maxL ret ∈ lw_all)
    (hG : gH K G H) (hS : va_S (gA K) s.heap H locs) (hl : lv_has ls nL L) (hR : f + 1 ≤ R.frames ∧ 24 + (maxL + 11) + o ≤ R.locals) (hf : cells ≤ R.cells ∧ slots ≤ R.slots) (hroom : (rest.map fun v => v.category).sum ≤ 24) (hst : st = As.reverse ++ rest) (hdg : decode cc pc = .ok (.invokestatic index, 3))
    (kk : ∀ (H1 : Heap) (locs1 : List Loc), gH K G H1 → va_S (gA K) s.heap H1 locs1 → W p l e R s m args below meth c H1 locs1 cells slots Q (F0 m (pc + 3) ls (v.toList ++ rest))) : W p l e R s m args below meth c H locs cells slots Q (F0 m pc ls st) := by
  refine g_callS X (hC G) hd hn h1 h2 h4 h5 hG hS hl hR hf hroom hst hdg (fun w G1 H1 locs1 hp hG1 hS1 => ?_)
  obtain ⟨rfl, rfl⟩ := hp
  exact kk H1 locs1 hG1 hS1
end PC
theorem in_f1 {n lo hi : Int32} (h : n < lo) : m_in n lo hi = false := by
  simp only [m_in, decide_eq_false (Int32.not_le.mpr h), Bool.false_and]
theorem in_f2 {n lo hi : Int32} (h : hi < n) : m_in n lo hi = false := by
  simp only [m_in, decide_eq_false (Int32.not_le.mpr h), Bool.and_false]
theorem in_t {n lo hi : Int32} (h1 : ¬ n < lo) (h2 : ¬ hi < n) : m_in n lo hi = true := by
  simp only [m_in, decide_eq_true (Int32.not_lt.mp h1), decide_eq_true (Int32.not_lt.mp h2), Bool.and_self]
theorem in_iff {n lo hi : Int32} : m_in n lo hi = true ↔ lo ≤ n ∧ n ≤ hi := by simp [m_in]
theorem cl_t {σ : mS} {k : Nat} : m_claim σ true k = σ := rfl
theorem cl_f {σ : mS} {k : Nat} : m_claim σ false k = sn σ 43 k := rfl
/-- an int that isn't below 0 is the number of its place -/
theorem n_of {x : Int32} (h : 0 ≤ x) : x = nI x.toNatClampNeg := by
  obtain ⟨j, hj, rfl⟩ := nI_of (Int32.not_lt.mpr h)
  rw [nI_clamp hj]
theorem n_cl {x : Int32} : x.toNatClampNeg < 2147483648 := by
  have h := Int32.toNatClampNeg_lt x
  simpa using h
