/-! calls and ends over the ghost heap -/
set_option maxRecDepth 100000
def gcw : Nat := 24
section GCALL
variable {p : Program} {l : Launch} {e : Env} {R : Room} {s : State} {m : MethodId} {args : Array Value} {below : List Frame} {meth : Method} {c : Code} {H : Heap} {locs : List Loc} {cells slots : Nat} {Q : State → Prop}
variable {cc : ByteArray} {pc : Nat} {ls : Array Slot} {rest st : List Value} {K : gK} {own : String} {nL : Nat} {G : gT} {L : List (Nat × Value)}
variable {y : MethodName} {bytes : ByteArray} {maxL index f o mc ms : Nat} {ret : Option FieldType} {As : List Value} {b : Addr} {post : Option Value → gT → Prop} {px : String → Prop}
theorem gKeep {st₀ t T1 : State} {L1 : List Loc} (hS : va_S (gA K) s.heap H locs) (h0 : st₀.heap = H) (e1 : T1.heap = t.heap) (hF : va_F (gA K) st₀ t) (hL : ∀ q ∈ L1, gA K q.base) : va_S (gA K) s.heap T1.heap (locs ++ L1) := by
  obtain ⟨hz, hk⟩ := hF
  rw [h0] at hz hk
  refine ⟨Nat.le_trans hS.1 (by rw [e1]; exact hz), fun q h1 h2 => by rw [e1, hk q (Nat.lt_of_lt_of_le h1 hS.1) h2]; exact hS.2.1 q h1 h2, fun q hq => ?_⟩
  rcases List.mem_append.mp hq with h | h
  · exact hS.2.2 q h
  · exact hL q h
theorem gPre (X : gC K p s m args meth c cc nL own) (hG : gH K G H) (hS : va_S (gA K) s.heap H locs) {av : List Value} (U : State) (hU : U.heap = H) (hW : s.WarmedH U.vm) : va_Pc av (gW K G) av.toArray U :=
  ⟨rfl, by rw [hU]; exact hG, by rw [hU]; exact (X.2.1.kept hS.2.1).moved hW⟩
theorem gBack (X : gC K p s m args meth c cc nL own) (hM : gMet l K y bytes maxL ret f o mc ms As G post) (hR : f + 1 ≤ R.frames ∧ 24 + (maxL + 11) + o ≤ R.locals) (hcode : Cond.code y bytes maxL ret ∈ lw_all) (hini : Cond.initialized y.cls ∈ lw_all) :
    Back l R p e below s args y 3 24 (PreOf R mc ms (va_Pc As (gW K G))) (PostOf (gQ K post) mc ms (gA K)) :=
  back_of (bytes := bytes) (maxL := maxL) (ret := ret) hM gW.blind rfl rfl hR.1 hR.2 (pay_in X.1.2.2.2.2 (lw_meth hcode)) List.mem_cons_self (fun a' U hW => word_at hW (Or.inl (by first | rfl | simp [Cond.onTables, Cond.keeps, Cond.steady])) (X.1.2.2.2.2 _ hini))
theorem gBackX (X : gC K p s m args meth c cc nL own) (hM : gMetX l K y bytes maxL ret f o mc ms As G post px) (hR : f + 1 ≤ R.frames ∧ 24 + (maxL + 11) + o ≤ R.locals) (hcode : Cond.code y bytes maxL ret ∈ lw_all) (hini : Cond.initialized y.cls ∈ lw_all) :
    vx_Back l R p e below s args y 3 24 (PreOf R mc ms (va_Pc As (gW K G))) (PostOf (gQ K post) mc ms (gA K)) (vx_Post (gX K G px) mc ms (gA K)) :=
  vx_back (bytes := bytes) (maxL := maxL) (ret := ret) hM gW.blind rfl rfl hR.1 hR.2 (pay_in X.1.2.2.2.2 (lw_meth hcode)) List.mem_cons_self (fun a' U hW => word_at hW (Or.inl (by first | rfl | simp [Cond.onTables, Cond.keeps, Cond.steady])) (X.1.2.2.2.2 _ hini))
theorem gRecv (X : gC K p s m args meth c cc nL own) (hG : gH K G H) {t ci : Nat} {fs : List Value} {C : String} {q : vw_C} (h : G b = some (t, .inr (ci, fs))) (hc : gcl[ci]? = some q) (hC : q.1 = C) : ∃ cell : Cell, H[b]? = some cell ∧ cell.vm.isStatics = false ∧ s.vm.findClass C = some cell.cls := by
  subst hC
  exact va_recv X.2.1.1 (g_one hG h) hc (q0 := 0) rfl
theorem gSt (h : (rest.map fun v => v.category).sum ≤ 24) : 2 * (F0 m pc ls st).monitorRoom + (rest.map fun v => v.category).sum ≤ 24 := by
  show 2 * 0 + _ ≤ 24
  omega
/-- the number of a method's parameters -/
def gPar (y : MethodName) (n : Nat) : Prop := (y.cls ≠ "java/lang/invoke/MethodHandle" ∧ y.cls ≠ "java/lang/invoke/VarHandle") ∧ (parseMethodDescriptor y.desc).map (fun d => d.parameters.length) = some n
theorem gPar.len {n : Nat} (h : gPar y n) (hn : As.length = n) : ∀ sig, parseMethodDescriptor y.desc = some sig → As.length = sig.parameters.length := by
  intro sig hs
  have h2 := h.2
  rw [hs] at h2
  rw [hn]
  exact (Option.some.inj h2).symm
theorem g_callV (X : gC K p s m args meth c cc nL own) (hM : gMet l K y bytes maxL ret f o mc ms (.ref b :: As) G post) {n : Nat} (hd : gPar y n) (hn : As.length = n) (h1 : Cond.methodLink own index y ∈ lw_all) (h2 : Cond.instanceMethod y ∈ lw_all) {C : String} (h3 : Cond.selects C y y ∈ lw_all) (h4 : Cond.initialized y.cls ∈ lw_all) (h5 : Cond.code y bytes maxL ret ∈ lw_all)
    (hG : gH K G H) (hS : va_S (gA K) s.heap H locs) (hr : ∃ cell : Cell, H[b]? = some cell ∧ cell.vm.isStatics = false ∧ s.vm.findClass C = some cell.cls) (hl : lv_has ls nL L) (hR : f + 1 ≤ R.frames ∧ 24 + (maxL + 11) + o ≤ R.locals) (hf : cells + mc ≤ R.cells ∧ slots + ms ≤ R.slots) (hroom : (rest.map fun v => v.category).sum ≤ 24) (hst : st = As.reverse ++ .ref b :: rest) (hdg : decode cc pc = .ok (.invokevirtual index, 3))
    (kk : ∀ (v : Option Value) (G1 : gT) (H1 : Heap) (locs1 : List Loc), post v G1 → gH K G1 H1 → va_S (gA K) s.heap H1 locs1 → W p l e R s m args below meth c H1 locs1 (cells + mc) (slots + ms) Q (F0 m (pc + 3) ls (v.toList ++ rest))) : W p l e R s m args below meth c H locs cells slots Q (F0 m pc ls st) := by
  have hts := X.1.2.2.2.2
  have hK := gBack (R := R) (e := e) (below := below) X hM hR h5 h4
  obtain ⟨cellB, hcB, hoB, hclB⟩ := hr
  intro T hT XX
  obtain ⟨v, vm₁, ⟨U', l2, c2, s2⟩, hW₁, X', ⟨g', mk, t, L1, e1, e2, ⟨⟨v2, G1, hv2, hp, hG1⟩, hFr⟩, q1, hL, q2, q3⟩, stp⟩ := callV XX X.1.1 (C := C) (bytes := bytes) (maxL := maxL) (ret := ret) X.1.2.2.2.1 (hts _ h1) (hts _ h2) (hts _ h3) (hts _ h5) hd.1 hK (by rw [hT]; exact hcB) hoB hclB (g := F0 m pc ls st) rfl (hl.1.trans X.1.2.2.1.symm) (argsL := As) (rest := rest) (hd.len hn) hst (gSt hroom) (by rw [X.1.2.1]; exact hdg) (fun vm₁ hW₁ => ⟨hf.1, hf.2, gPre X hG hS (T.setVm vm₁) hT hW₁⟩)
  dsimp only [Pt.U, Pt.locs, Pt.cells, Pt.slots] at X' e1 e2 q1 q2 q3 stp
  subst q1; subst q2; subst q3
  cases hv2
  obtain ⟨t2, a1, b1⟩ := kk v G1 U'.heap (locs ++ L1) hp (by rw [e1]; exact hG1) (gKeep hS (show ((T.setVm vm₁).calling g' mk _).heap = H from hT) e1 hFr hL) U' rfl X'
  exact ⟨t2, stp t2 a1, b1⟩
theorem g_callS (X : gC K p s m args meth c cc nL own) (hM : gMet l K y bytes maxL ret f o mc ms As G post) {n : Nat} (hd : gPar y n) (hn : As.length = n) (h1 : Cond.methodLink own index y ∈ lw_all) (h2 : Cond.static y ∈ lw_all) (h4 : Cond.initialized y.cls ∈ lw_all) (h5 : Cond.code y bytes maxL ret ∈ lw_all)
    (hG : gH K G H) (hS : va_S (gA K) s.heap H locs) (hl : lv_has ls nL L) (hR : f + 1 ≤ R.frames ∧ 24 + (maxL + 11) + o ≤ R.locals) (hf : cells + mc ≤ R.cells ∧ slots + ms ≤ R.slots) (hroom : (rest.map fun v => v.category).sum ≤ 24) (hst : st = As.reverse ++ rest) (hdg : decode cc pc = .ok (.invokestatic index, 3))
    (kk : ∀ (v : Option Value) (G1 : gT) (H1 : Heap) (locs1 : List Loc), post v G1 → gH K G1 H1 → va_S (gA K) s.heap H1 locs1 → W p l e R s m args below meth c H1 locs1 (cells + mc) (slots + ms) Q (F0 m (pc + 3) ls (v.toList ++ rest))) : W p l e R s m args below meth c H locs cells slots Q (F0 m pc ls st) := by
  have hts := X.1.2.2.2.2
  have hK := gBack (R := R) (e := e) (below := below) X hM hR h5 h4
  intro T hT XX
  obtain ⟨v, vm₁, ⟨U', l2, c2, s2⟩, hW₁, X', ⟨g', mk, t, L1, e1, e2, ⟨⟨v2, G1, hv2, hp, hG1⟩, hFr⟩, q1, hL, q2, q3⟩, stp⟩ := callS XX X.1.1 (bytes := bytes) (maxL := maxL) (ret := ret) X.1.2.2.2.1 (hts _ h1) (hts _ h2) (hts _ h4) (hts _ h5) hd.1 hK (g := F0 m pc ls st) rfl (hl.1.trans X.1.2.2.1.symm) (argsL := As) (rest := rest) (hd.len hn) hst (gSt hroom) (by rw [X.1.2.1]; exact hdg) (fun vm₁ hW₁ => ⟨hf.1, hf.2, gPre X hG hS (T.setVm vm₁) hT hW₁⟩)
  dsimp only [Pt.U, Pt.locs, Pt.cells, Pt.slots] at X' e1 e2 q1 q2 q3 stp
  subst q1; subst q2; subst q3
  cases hv2
  obtain ⟨t2, a1, b1⟩ := kk v G1 U'.heap (locs ++ L1) hp (by rw [e1]; exact hG1) (gKeep hS (show ((T.setVm vm₁).calling g' mk _).heap = H from hT) e1 hFr hL) U' rfl X'
  exact ⟨t2, stp t2 a1, b1⟩
theorem g_callI (X : gC K p s m args meth c cc nL own) (hM : gMet l K y bytes maxL none f o mc ms (.ref b :: As) G post) {n : Nat} (hd : gPar y n) (hn : As.length = n) (hy1 : y.name = "<init>") (h1 : Cond.methodLink own index y ∈ lw_all) (h2 : Cond.instanceMethod y ∈ lw_all) (h4 : Cond.initialized y.cls ∈ lw_all) (h5 : Cond.code y bytes maxL none ∈ lw_all)
    (hG : gH K G H) (hS : va_S (gA K) s.heap H locs) (hl : lv_has ls nL L) (hR : f + 1 ≤ R.frames ∧ 24 + (maxL + 11) + o ≤ R.locals) (hf : cells + mc ≤ R.cells ∧ slots + ms ≤ R.slots) (hroom : (rest.map fun v => v.category).sum ≤ 24) (hst : st = As.reverse ++ .ref b :: rest) (hdg : decode cc pc = .ok (.invokespecial index, 3))
    (kk : ∀ (v : Option Value) (G1 : gT) (H1 : Heap) (locs1 : List Loc), post v G1 → gH K G1 H1 → va_S (gA K) s.heap H1 locs1 → W p l e R s m args below meth c H1 locs1 (cells + mc) (slots + ms) Q (F0 m (pc + 3) ls (v.toList ++ rest))) : W p l e R s m args below meth c H locs cells slots Q (F0 m pc ls st) := by
  have hts := X.1.2.2.2.2
  have hK := gBack (R := R) (e := e) (below := below) X hM hR h5 h4
  intro T hT XX
  obtain ⟨v, vm₁, ⟨U', l2, c2, s2⟩, hW₁, X', ⟨g', mk, t, L1, e1, e2, ⟨⟨v2, G1, hv2, hp, hG1⟩, hFr⟩, q1, hL, q2, q3⟩, stp⟩ := callI XX X.1.1 (bytes := bytes) (maxL := maxL) X.1.2.2.2.1 hy1 (hts _ h1) (hts _ h2) (hts _ h5) hd.1 hK (g := F0 m pc ls st) rfl (hl.1.trans X.1.2.2.1.symm) (a := b) (argsL := As) (rest := rest) (hd.len hn) hst (gSt hroom) (by rw [X.1.2.1]; exact hdg) (fun vm₁ hW₁ => ⟨hf.1, hf.2, gPre X hG hS (T.setVm vm₁) hT hW₁⟩)
  dsimp only [Pt.U, Pt.locs, Pt.cells, Pt.slots] at X' e1 e2 q1 q2 q3 stp
  subst q1; subst q2; subst q3
  cases hv2
  obtain ⟨t2, a1, b1⟩ := kk v G1 U'.heap (locs ++ L1) hp (by rw [e1]; exact hG1) (gKeep hS (show ((T.setVm vm₁).calling g' mk _).heap = H from hT) e1 hFr hL) U' rfl X'
  exact ⟨t2, stp t2 a1, b1⟩
/-- a nest mate's static -/
theorem g_callSN (X : gC K p s m args meth c cc nL own) (hM : gMet l K y bytes maxL ret f o mc ms As G post) {n : Nat} (hd : gPar y n) (hn : As.length = n) {host : String} (h1 : va_Nw (.methodLinkNest own index y host) s) (h2 : Cond.static y ∈ lw_all) (h4 : Cond.initialized y.cls ∈ lw_all) (h5 : Cond.code y bytes maxL ret ∈ lw_all)
    (hG : gH K G H) (hS : va_S (gA K) s.heap H locs) (hl : lv_has ls nL L) (hR : f + 1 ≤ R.frames ∧ 24 + (maxL + 11) + o ≤ R.locals) (hf : cells + mc ≤ R.cells ∧ slots + ms ≤ R.slots) (hroom : (rest.map fun v => v.category).sum ≤ 24) (hst : st = As.reverse ++ rest) (hdg : decode cc pc = .ok (.invokestatic index, 3))
    (kk : ∀ (v : Option Value) (G1 : gT) (H1 : Heap) (locs1 : List Loc), post v G1 → gH K G1 H1 → va_S (gA K) s.heap H1 locs1 → W p l e R s m args below meth c H1 locs1 (cells + mc) (slots + ms) Q (F0 m (pc + 3) ls (v.toList ++ rest))) : W p l e R s m args below meth c H locs cells slots Q (F0 m pc ls st) := by
  have hts := X.1.2.2.2.2
  have hK := gBack (R := R) (e := e) (below := below) X hM hR h5 h4
  intro T hT XX
  obtain ⟨v, vm₁, ⟨U', l2, c2, s2⟩, hW₁, X', ⟨g', mk, t, L1, e1, e2, ⟨⟨v2, G1, hv2, hp, hG1⟩, hFr⟩, q1, hL, q2, q3⟩, stp⟩ := va_callSN XX X.1.1 (bytes := bytes) (maxL := maxL) (ret := ret) X.1.2.2.2.1 (va_Nw.use rfl h1) (hts _ h2) (hts _ h4) (hts _ h5) hd.1 hK (g := F0 m pc ls st) rfl (hl.1.trans X.1.2.2.1.symm) (argsL := As) (rest := rest) (hd.len hn) hst (gSt hroom) (by rw [X.1.2.1]; exact hdg) (fun vm₁ hW₁ => ⟨hf.1, hf.2, gPre X hG hS (T.setVm vm₁) hT hW₁⟩)
  dsimp only [Pt.U, Pt.locs, Pt.cells, Pt.slots] at X' e1 e2 q1 q2 q3 stp
  subst q1; subst q2; subst q3
  cases hv2
  obtain ⟨t2, a1, b1⟩ := kk v G1 U'.heap (locs ++ L1) hp (by rw [e1]; exact hG1) (gKeep hS (show ((T.setVm vm₁).calling g' mk _).heap = H from hT) e1 hFr hL) U' rfl X'
  exact ⟨t2, stp t2 a1, b1⟩
theorem g_callIN (X : gC K p s m args meth c cc nL own) (hM : gMet l K y bytes maxL none f o mc ms (.ref b :: As) G post) {n : Nat} (hd : gPar y n) (hn : As.length = n) (hy1 : y.name = "<init>") {host : String} (h1 : va_Nw (.methodLinkNest own index y host) s) (h2 : Cond.instanceMethod y ∈ lw_all) (h4 : Cond.initialized y.cls ∈ lw_all) (h5 : Cond.code y bytes maxL none ∈ lw_all)
    (hG : gH K G H) (hS : va_S (gA K) s.heap H locs) (hl : lv_has ls nL L) (hR : f + 1 ≤ R.frames ∧ 24 + (maxL + 11) + o ≤ R.locals) (hf : cells + mc ≤ R.cells ∧ slots + ms ≤ R.slots) (hroom : (rest.map fun v => v.category).sum ≤ 24) (hst : st = As.reverse ++ .ref b :: rest) (hdg : decode cc pc = .ok (.invokespecial index, 3))
    (kk : ∀ (v : Option Value) (G1 : gT) (H1 : Heap) (locs1 : List Loc), post v G1 → gH K G1 H1 → va_S (gA K) s.heap H1 locs1 → W p l e R s m args below meth c H1 locs1 (cells + mc) (slots + ms) Q (F0 m (pc + 3) ls (v.toList ++ rest))) : W p l e R s m args below meth c H locs cells slots Q (F0 m pc ls st) := by
  have hts := X.1.2.2.2.2
  have hK := gBack (R := R) (e := e) (below := below) X hM hR h5 h4
  intro T hT XX
  obtain ⟨v, vm₁, ⟨U', l2, c2, s2⟩, hW₁, X', ⟨g', mk, t, L1, e1, e2, ⟨⟨v2, G1, hv2, hp, hG1⟩, hFr⟩, q1, hL, q2, q3⟩, stp⟩ := va_callIN XX X.1.1 (bytes := bytes) (maxL := maxL) X.1.2.2.2.1 hy1 (va_Nw.use rfl h1) (hts _ h2) (hts _ h5) hd.1 hK (g := F0 m pc ls st) rfl (hl.1.trans X.1.2.2.1.symm) (a := b) (argsL := As) (rest := rest) (hd.len hn) hst (gSt hroom) (by rw [X.1.2.1]; exact hdg) (fun vm₁ hW₁ => ⟨hf.1, hf.2, gPre X hG hS (T.setVm vm₁) hT hW₁⟩)
  dsimp only [Pt.U, Pt.locs, Pt.cells, Pt.slots] at X' e1 e2 q1 q2 q3 stp
  subst q1; subst q2; subst q3
  cases hv2
  obtain ⟨t2, a1, b1⟩ := kk v G1 U'.heap (locs ++ L1) hp (by rw [e1]; exact hG1) (gKeep hS (show ((T.setVm vm₁).calling g' mk _).heap = H from hT) e1 hFr hL) U' rfl X'
  exact ⟨t2, stp t2 a1, b1⟩
/-- a call that names Object's method; the receiver's class has its own -/
theorem g_callU (X : gC K p s m args meth c cc nL own) {x : MethodName} (hM : gMet l K y bytes maxL ret f o mc ms (.ref b :: As) G post) {n : Nat} (hd : gPar x n) (hn : As.length = n) (h1 : Cond.methodLink own index x ∈ lw_all) (h2 : Cond.instanceMethod y ∈ lw_all) {C : String} (h3 : Cond.selects C x y ∈ lw_all) (h4 : Cond.initialized y.cls ∈ lw_all) (h5 : Cond.code y bytes maxL ret ∈ lw_all) (h6 : Cond.sameMethod x.cls x.cls x.name x.desc ∈ lw_all) (h7 : va_Decl s ⟨x.cls, x.name, x.desc⟩)
    (hG : gH K G H) (hS : va_S (gA K) s.heap H locs) (hr : ∃ cell : Cell, H[b]? = some cell ∧ cell.vm.isStatics = false ∧ s.vm.findClass C = some cell.cls) (hl : lv_has ls nL L) (hR : f + 1 ≤ R.frames ∧ 24 + (maxL + 11) + o ≤ R.locals) (hf : cells + mc ≤ R.cells ∧ slots + ms ≤ R.slots) (hroom : (rest.map fun v => v.category).sum ≤ 24) (hst : st = As.reverse ++ .ref b :: rest) (hdg : decode cc pc = .ok (.invokevirtual index, 3))
    (kk : ∀ (v : Option Value) (G1 : gT) (H1 : Heap) (locs1 : List Loc), post v G1 → gH K G1 H1 → va_S (gA K) s.heap H1 locs1 → W p l e R s m args below meth c H1 locs1 (cells + mc) (slots + ms) Q (F0 m (pc + 3) ls (v.toList ++ rest))) : W p l e R s m args below meth c H locs cells slots Q (F0 m pc ls st) := by
  have hts := X.1.2.2.2.2
  have hK := gBack (R := R) (e := e) (below := below) X hM hR h5 h4
  obtain ⟨cellB, hcB, hoB, hclB⟩ := hr
  intro T hT XX
  obtain ⟨v, vm₁, ⟨U', l2, c2, s2⟩, hW₁, X', ⟨g', mk, t, L1, e1, e2, ⟨⟨v2, G1, hv2, hp, hG1⟩, hFr⟩, q1, hL, q2, q3⟩, stp⟩ := va_callVU XX X.1.1 (C := C) (bytes := bytes) (maxL := maxL) (ret := ret) X.1.2.2.2.1 (hts _ h1) (hts _ h6) h7 hd.1 (hts _ h3) (hts _ h2) (hts _ h5) hK (by rw [hT]; exact hcB) hoB hclB (g := F0 m pc ls st) rfl (hl.1.trans X.1.2.2.1.symm) (argsL := As) (rest := rest) (hd.len hn) hst (gSt hroom) (by rw [X.1.2.1]; exact hdg) (fun vm₁ hW₁ => ⟨hf.1, hf.2, gPre X hG hS (T.setVm vm₁) hT hW₁⟩)
  dsimp only [Pt.U, Pt.locs, Pt.cells, Pt.slots] at X' e1 e2 q1 q2 q3 stp
  subst q1; subst q2; subst q3
  cases hv2
  obtain ⟨t2, a1, b1⟩ := kk v G1 U'.heap (locs ++ L1) hp (by rw [e1]; exact hG1) (gKeep hS (show ((T.setVm vm₁).calling g' mk _).heap = H from hT) e1 hFr hL) U' rfl X'
  exact ⟨t2, stp t2 a1, b1⟩
/-- calls of methods that may throw: kx is the way of the exception -/
theorem g_callVX (X : gC K p s m args meth c cc nL own) (hM : gMetX l K y bytes maxL ret f o mc ms (.ref b :: As) G post px) {n : Nat} (hd : gPar y n) (hn : As.length = n) (h1 : Cond.methodLink own index y ∈ lw_all) (h2 : Cond.instanceMethod y ∈ lw_all) {C : String} (h3 : Cond.selects C y y ∈ lw_all) (h4 : Cond.initialized y.cls ∈ lw_all) (h5 : Cond.code y bytes maxL ret ∈ lw_all)
    (hG : gH K G H) (hS : va_S (gA K) s.heap H locs) (hr : ∃ cell : Cell, H[b]? = some cell ∧ cell.vm.isStatics = false ∧ s.vm.findClass C = some cell.cls) (hl : lv_has ls nL L) (hR : f + 1 ≤ R.frames ∧ 24 + (maxL + 11) + o ≤ R.locals) (hf : cells + mc ≤ R.cells ∧ slots + ms ≤ R.slots) (hroom : (rest.map fun v => v.category).sum ≤ 24) (hst : st = As.reverse ++ .ref b :: rest) (hdg : decode cc pc = .ok (.invokevirtual index, 3))
    (kx : ∀ (E : String) (ce : Cell) (q9 : Addr) (H1 : Heap) (locs1 : List Loc), px E → gH K G H1 → va_S (gA K) s.heap H1 locs1 → H1[q9]? = some ce → ce.vm = .none → s.vm.findClass E = some ce.cls → vx_W p l e R s m args below meth c H1 locs1 (cells + mc) (slots + ms) Q (F0 m pc ls rest) q9)
    (kk : ∀ (v : Option Value) (G1 : gT) (H1 : Heap) (locs1 : List Loc), post v G1 → gH K G1 H1 → va_S (gA K) s.heap H1 locs1 → W p l e R s m args below meth c H1 locs1 (cells + mc) (slots + ms) Q (F0 m (pc + 3) ls (v.toList ++ rest))) : W p l e R s m args below meth c H locs cells slots Q (F0 m pc ls st) := by
  have hts := X.1.2.2.2.2
  have hK := gBackX (R := R) (e := e) (below := below) X hM hR h5 h4
  obtain ⟨cellB, hcB, hoB, hclB⟩ := hr
  intro T hT XX
  rcases vx_callV XX X.1.1 (C := C) (bytes := bytes) (maxL := maxL) (ret := ret) X.1.2.2.2.1 (hts _ h1) (hts _ h2) (hts _ h3) (hts _ h5) hd.1 hK (by rw [hT]; exact hcB) hoB hclB (g := F0 m pc ls st) rfl (hl.1.trans X.1.2.2.1.symm) (argsL := As) (rest := rest) (hd.len hn) hst (gSt hroom) (by rw [X.1.2.1]; exact hdg) (fun vm₁ hW₁ => ⟨hf.1, hf.2, gPre X hG hS (T.setVm vm₁) hT hW₁⟩) with ⟨v, vm₁, ⟨U', l2, c2, s2⟩, hW₁, X', ⟨g', mk, t, L1, e1, e2, ⟨⟨v2, G1, hv2, hp, hG1⟩, hFr⟩, q1, hL, q2, q3⟩, stp⟩ | ⟨q9, vm₁, ⟨U', l2, c2, s2⟩, hW₁, X', ⟨g', mk, t, L1, E, ce, e1, e2, ⟨hpx, hG1, hFr⟩, hce, hcv, hcl, q1, hL, q2, q3⟩, stp⟩
  · dsimp only [Pt.U, Pt.locs, Pt.cells, Pt.slots] at X' e1 e2 q1 q2 q3 stp
    subst q1; subst q2; subst q3
    cases hv2
    obtain ⟨t2, a1, b1⟩ := kk v G1 U'.heap (locs ++ L1) hp (by rw [e1]; exact hG1) (gKeep hS (show ((T.setVm vm₁).calling g' mk _).heap = H from hT) e1 hFr hL) U' rfl X'
    exact ⟨t2, stp t2 a1, b1⟩
  · dsimp only [Pt.U, Pt.locs, Pt.cells, Pt.slots] at X' e1 e2 q1 q2 q3 stp hcl
    subst q1; subst q2; subst q3
    obtain ⟨t2, a1, b1⟩ := kx E ce q9 U'.heap (locs ++ L1) hpx (by rw [e1]; exact hG1) (gKeep hS (show ((T.setVm vm₁).calling g' mk _).heap = H from hT) e1 hFr hL) (by rw [e1]; exact hce) hcv (vx_cls hW₁ hcl) U' rfl X'
    exact ⟨t2, stp.trans a1, b1⟩
theorem g_callSX (X : gC K p s m args meth c cc nL own) (hM : gMetX l K y bytes maxL ret f o mc ms As G post px) {n : Nat} (hd : gPar y n) (hn : As.length = n) (h1 : Cond.methodLink own index y ∈ lw_all) (h2 : Cond.static y ∈ lw_all) (h4 : Cond.initialized y.cls ∈ lw_all) (h5 : Cond.code y bytes maxL ret ∈ lw_all)
    (hG : gH K G H) (hS : va_S (gA K) s.heap H locs) (hl : lv_has ls nL L) (hR : f + 1 ≤ R.frames ∧ 24 + (maxL + 11) + o ≤ R.locals) (hf : cells + mc ≤ R.cells ∧ slots + ms ≤ R.slots) (hroom : (rest.map fun v => v.category).sum ≤ 24) (hst : st = As.reverse ++ rest) (hdg : decode cc pc = .ok (.invokestatic index, 3))
    (kx : ∀ (E : String) (ce : Cell) (q9 : Addr) (H1 : Heap) (locs1 : List Loc), px E → gH K G H1 → va_S (gA K) s.heap H1 locs1 → H1[q9]? = some ce → ce.vm = .none → s.vm.findClass E = some ce.cls → vx_W p l e R s m args below meth c H1 locs1 (cells + mc) (slots + ms) Q (F0 m pc ls rest) q9)
    (kk : ∀ (v : Option Value) (G1 : gT) (H1 : Heap) (locs1 : List Loc), post v G1 → gH K G1 H1 → va_S (gA K) s.heap H1 locs1 → W p l e R s m args below meth c H1 locs1 (cells + mc) (slots + ms) Q (F0 m (pc + 3) ls (v.toList ++ rest))) : W p l e R s m args below meth c H locs cells slots Q (F0 m pc ls st) := by
  have hts := X.1.2.2.2.2
  have hK := gBackX (R := R) (e := e) (below := below) X hM hR h5 h4
  intro T hT XX
  rcases vx_callS XX X.1.1 (bytes := bytes) (maxL := maxL) (ret := ret) X.1.2.2.2.1 (hts _ h1) (hts _ h2) (hts _ h4) (hts _ h5) hd.1 hK (g := F0 m pc ls st) rfl (hl.1.trans X.1.2.2.1.symm) (argsL := As) (rest := rest) (hd.len hn) hst (gSt hroom) (by rw [X.1.2.1]; exact hdg) (fun vm₁ hW₁ => ⟨hf.1, hf.2, gPre X hG hS (T.setVm vm₁) hT hW₁⟩) with ⟨v, vm₁, ⟨U', l2, c2, s2⟩, hW₁, X', ⟨g', mk, t, L1, e1, e2, ⟨⟨v2, G1, hv2, hp, hG1⟩, hFr⟩, q1, hL, q2, q3⟩, stp⟩ | ⟨q9, vm₁, ⟨U', l2, c2, s2⟩, hW₁, X', ⟨g', mk, t, L1, E, ce, e1, e2, ⟨hpx, hG1, hFr⟩, hce, hcv, hcl, q1, hL, q2, q3⟩, stp⟩
  · dsimp only [Pt.U, Pt.locs, Pt.cells, Pt.slots] at X' e1 e2 q1 q2 q3 stp
    subst q1; subst q2; subst q3
    cases hv2
    obtain ⟨t2, a1, b1⟩ := kk v G1 U'.heap (locs ++ L1) hp (by rw [e1]; exact hG1) (gKeep hS (show ((T.setVm vm₁).calling g' mk _).heap = H from hT) e1 hFr hL) U' rfl X'
    exact ⟨t2, stp t2 a1, b1⟩
  · dsimp only [Pt.U, Pt.locs, Pt.cells, Pt.slots] at X' e1 e2 q1 q2 q3 stp hcl
    subst q1; subst q2; subst q3
    obtain ⟨t2, a1, b1⟩ := kx E ce q9 U'.heap (locs ++ L1) hpx (by rw [e1]; exact hG1) (gKeep hS (show ((T.setVm vm₁).calling g' mk _).heap = H from hT) e1 hFr hL) (by rw [e1]; exact hce) hcv (vx_cls hW₁ hcl) U' rfl X'
    exact ⟨t2, stp.trans a1, b1⟩
/-! ends -/
theorem g_hq {x : Option Value} (hG : gH K G H) (hS : va_S (gA K) s.heap H locs) (hp : post x G) : ∀ t : State, t.heap = H → s.WarmedH t.vm → gQ K post args s (.returned x) t := fun t ht _ => ⟨⟨x, G, rfl, hp, by rw [ht]; exact hG⟩, hS.F ht⟩
theorem g_iret (X : gC K p s m args meth c cc nL own) (hr : meth.sig.returnType = some .int) (hG : gH K G H) (hS : va_S (gA K) s.heap H locs) {v : Int32} (hp : post (some (.int v)) G) (hc : cells ≤ mc) (hs : slots ≤ ms) (hdg : decode cc pc = .ok (.ireturn, 1)) : W p l e R s m args below meth c H locs cells slots (MQ below (gQ K post) args s mc ms (gA K)) (F0 m pc ls [.int v]) :=
  W.widen hc hs (W.iret X.1.1 X.1.2.1 hr (g_hq hG hS hp) hS.2.2 hdg (hlocks := X.2.2.2))
theorem g_zret (X : gC K p s m args meth c cc nL own) (hr : meth.sig.returnType = some .boolean) (hG : gH K G H) (hS : va_S (gA K) s.heap H locs) {v : Int32} (hn : narrow .boolean (.int v) = .int v) (hp : post (some (.int v)) G) (hc : cells ≤ mc) (hs : slots ≤ ms) (hdg : decode cc pc = .ok (.ireturn, 1)) : W p l e R s m args below meth c H locs cells slots (MQ below (gQ K post) args s mc ms (gA K)) (F0 m pc ls [.int v]) :=
  W.widen hc hs (W.zret X.1.1 X.1.2.1 hr hn (g_hq hG hS hp) hS.2.2 hdg (hlocks := X.2.2.2))
theorem g_lret (X : gC K p s m args meth c cc nL own) (hr : meth.sig.returnType = some .long) (hG : gH K G H) (hS : va_S (gA K) s.heap H locs) {v : Int64} (hp : post (some (.long v)) G) (hc : cells ≤ mc) (hs : slots ≤ ms) (hdg : decode cc pc = .ok (.lreturn, 1)) : W p l e R s m args below meth c H locs cells slots (MQ below (gQ K post) args s mc ms (gA K)) (F0 m pc ls [.long v]) :=
  W.widen hc hs (W.lret X.1.1 X.1.2.1 hr (g_hq hG hS hp) hS.2.2 hdg (hlocks := X.2.2.2))
theorem g_fret (X : gC K p s m args meth c cc nL own) (hr : meth.sig.returnType = some .float) (hG : gH K G H) (hS : va_S (gA K) s.heap H locs) {v : UInt32} (hp : post (some (.float v)) G) (hc : cells ≤ mc) (hs : slots ≤ ms) (hdg : decode cc pc = .ok (.freturn, 1)) : W p l e R s m args below meth c H locs cells slots (MQ below (gQ K post) args s mc ms (gA K)) (F0 m pc ls [.float v]) :=
  W.widen hc hs (W.fret X.1.1 X.1.2.1 hr (g_hq hG hS hp) hS.2.2 hdg (hlocks := X.2.2.2))
theorem g_dret (X : gC K p s m args meth c cc nL own) (hr : meth.sig.returnType = some .double) (hG : gH K G H) (hS : va_S (gA K) s.heap H locs) {v : UInt64} (hp : post (some (.double v)) G) (hc : cells ≤ mc) (hs : slots ≤ ms) (hdg : decode cc pc = .ok (.dreturn, 1)) : W p l e R s m args below meth c H locs cells slots (MQ below (gQ K post) args s mc ms (gA K)) (F0 m pc ls [.double v]) :=
  W.widen hc hs (W.dret X.1.1 X.1.2.1 hr (g_hq hG hS hp) hS.2.2 hdg (hlocks := X.2.2.2))
theorem g_vret (X : gC K p s m args meth c cc nL own) (hr : meth.sig.returnType = none) (hG : gH K G H) (hS : va_S (gA K) s.heap H locs) (hp : post none G) (hc : cells ≤ mc) (hs : slots ≤ ms) (hdg : decode cc pc = .ok (.return_, 1)) : W p l e R s m args below meth c H locs cells slots (MQ below (gQ K post) args s mc ms (gA K)) (F0 m pc ls []) :=
  W.widen hc hs (W.vret X.1.1 X.1.2.1 hr (g_hq hG hS hp) hS.2.2 hdg (hlocks := X.2.2.2))
theorem g_aret (X : gC K p s m args meth c cc nL own) {rt : FieldType} (hr : meth.sig.returnType = some rt) (hrt : (∃ n, rt = .object n) ∨ ∃ t, rt = .array t) (hG : gH K G H) (hS : va_S (gA K) s.heap H locs) {v : Value} (hv : v = .null ∨ ∃ a, v = .ref a) (hp : post (some v) G) (hc : cells ≤ mc) (hs : slots ≤ ms) (hdg : decode cc pc = .ok (.areturn, 1)) : W p l e R s m args below meth c H locs cells slots (MQ below (gQ K post) args s mc ms (gA K)) (F0 m pc ls [v]) :=
  W.widen hc hs (W.aret X.1.1 X.1.2.1 hr hrt hv (g_hq hG hS hp) hS.2.2 hdg (hlocks := X.2.2.2))
/-- not caught here -/
theorem g_out (X : gC K p s m args meth c cc nL own) (htab : ∀ x ∈ c.exceptionTable.toList, False) {E : String} {ce : Cell} {q9 : Addr} (hG : gH K G H) (hS : va_S (gA K) s.heap H locs) (hce : H[q9]? = some ce) (hcv : ce.vm = .none) (hcl : s.vm.findClass E = some ce.cls) (hp : px E) (hc : cells ≤ mc) (hs : slots ≤ ms) : vx_W p l e R s m args below meth c H locs cells slots (vx_MQ below (gQ K post) (gX K G px) args s mc ms (gA K)) (F0 m pc ls rest) q9 :=
  vx_out (fun x hx => (htab x hx).elim) X.2.2.2 hce hcv hcl (fun t ht _ => ⟨hp, by rw [ht]; exact hG, hS.F ht⟩) hS.2.2 hc hs
/-- a pure method: the answer, nothing else -/
def pMet (l : Launch) (K : gK) (y : MethodName) (cc : ByteArray) (nL : Nat) (ret : Option FieldType) (f o : Nat) (As : List Value) (v : Option Value) : Prop := ∀ G : gT, gMet l K y cc nL ret f o 0 0 As G (fun w G1 => w = v ∧ G1 = G)
end GCALL
section GN
variable {p : Program} {l : Launch} {e : Env} {R : Room} {s : State} {m : MethodId} {args : Array Value} {below : List Frame} {meth : Method} {c : Code} {H : Heap} {locs : List Loc} {cells slots : Nat} {Q : State → Prop}
variable {cc : ByteArray} {pc : Nat} {ls : Array Slot} {rest : List Value}
/-! numbers -/
theorem n_add {x y : Int32} {a b : Nat} (h1 : x = nI a) (h2 : y = nI b) : x + y = nI (a + b) := by rw [h1, h2]; exact nI_add a b
theorem n_mul {x y : Int32} {a b : Nat} (h1 : x = nI a) (h2 : y = nI b) : x * y = nI (a * b) := by rw [h1, h2]; exact pk_mul a b
theorem n_sub {x y : Int32} {a b : Nat} (h1 : x = nI a) (h2 : y = nI b) (h : b ≤ a) : x - y = nI (a - b) := by rw [h1, h2]; exact pk_sub h
theorem g_topN {x : Int32} {n : Nat} (h : x = nI n) (k : W p l e R s m args below meth c H locs cells slots Q (F0 m pc ls (.int (nI n) :: rest))) : W p l e R s m args below meth c H locs cells slots Q (F0 m pc ls (.int x :: rest)) := by rw [h]; exact k
theorem g_topE {x z : Int32} (h : x = z) (k : W p l e R s m args below meth c H locs cells slots Q (F0 m pc ls (.int z :: rest))) : W p l e R s m args below meth c H locs cells slots Q (F0 m pc ls (.int x :: rest)) := by rw [h]; exact k
theorem g_topL {x z : Int64} (h : x = z) (k : W p l e R s m args below meth c H locs cells slots Q (F0 m pc ls (.long z :: rest))) : W p l e R s m args below meth c H locs cells slots Q (F0 m pc ls (.long x :: rest)) := by rw [h]; exact k
theorem n_lt {x y : Int32} {a b : Nat} (h1 : x = nI a) (h2 : y = nI b) (ha : a < 2147483648) (hb : b < 2147483648) : x < y ↔ a < b := by rw [h1, h2]; exact nI_ltI ha hb
theorem n_le {x y : Int32} {a b : Nat} (h1 : x = nI a) (h2 : y = nI b) (ha : a < 2147483648) (hb : b < 2147483648) : x ≤ y ↔ a ≤ b := by rw [h1, h2]; exact nI_leI ha hb
theorem n_eq {x y : Int32} {a b : Nat} (h1 : x = nI a) (h2 : y = nI b) (ha : a < 2147483648) (hb : b < 2147483648) : x = y ↔ a = b := by rw [h1, h2]; exact nI_eq ha hb
theorem n_0 : (0 : Int32) = nI 0 := rfl
end GN
/-- .. of a method of a class like java/lang/Math: no native row stands for it -/
theorem gMet.ofF {l : Launch} {K : gK} {y : MethodName} {cc : ByteArray} {nL : Nat} {ret : Option FieldType} {f o mc ms : Nat} {av : List Value} {G : gT} {post : Option Value → gT → Prop} (hy : plainFor y = true) (hav : (lg_sl av).length ≤ nL) (body : ∀ (p : Program) (e : Env) (s : State) (m : MethodId) (below : List Frame) (meth : Method) (c : Code) (ls : Array Slot), p.tables.exec = Jvm.exec → c.code = cc → gC K p s m av.toArray meth c cc nL y.cls → meth.sig.returnType = ret → meth.name = y.name → gH K G s.heap → va_S (gA K) s.heap s.heap [] → lv_has ls nL (lv_args 0 av) →
    W p l e { frames := f, cells := mc, slots := ms, locals := o } s m av.toArray below meth c s.heap [] 0 0 (MQ below (gQ K post) av.toArray s mc ms (gA K)) (F0 m 0 ls [])) : gMet l K y cc nL ret f o mc ms av G post := by
  unfold gMet Met
  refine MetFree.of_bodySF (code := cc) (maxLocals := nL) (ret := ret) hy ?_ ?_
  · intro args s m h hn
    obtain ⟨meth, c, h1, h2, h3, h4, h5, h6, -, -⟩ := Cond.code_spec hn (atoms_spec (ws := ws_ y cc nL ret) h _ List.mem_cons_self)
    exact ⟨meth, c, h1, h2, h3, h4, h5, h6⟩
  · intro p e s m args below meth c s₁ B hml hP _
    obtain ⟨rfl, hG, hO⟩ := hP
    have hh0 : s₁.heap = s.heap := by rw [B.state]; rfl
    have hts := atoms_spec (ws := ws_ y cc nL ret) B.pre
    have hts : ∀ w ∈ lw_all, w.before _ s = true := fun w h => hts w (List.mem_cons_of_mem _ h)
    have hown : s.vm.findClass y.cls = some m.cls := findClass_of_methodNamed B.named
    have hin : meth.name = y.name := (name_of_methodNamed B.named B.method).1
    rw [lg_entry_eq]
    obtain ⟨t, a1, o, b1, b2, b3⟩ := body p e s m below meth c _ B.exec B.bytes ⟨⟨B.exec, B.bytes, hml, hown, hts⟩, hO, hG.2.2, B.notSynchronized⟩ B.returns hin hG va_S.rf (lv_entry av hav) s₁ hh0 (Stand.of_body B)
    exact ⟨t, o, a1, b1, b2, ⟨b3.1, b3.2⟩⟩
