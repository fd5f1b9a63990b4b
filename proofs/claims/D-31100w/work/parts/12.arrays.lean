/-! new arrays -/
set_option maxRecDepth 100000
/-! three dimensions -/
def outer3 (c : ClassId) (N h0 w : Nat) : Nat → Cell
  | 0 => { cls := c, slots := Array.replicate N .null, vm := .none }
  | i + 1 => (outer3 c N h0 w i).setSlot i (.ref (h0 + 1 + i * w))
def fill3 (s : State) (c c1 c2 : ClassId) (N M L : Nat) (dv : Value) : Nat → State
  | 0 => s.pushCell (outer3 c N s.heap.size (1 + M) 0)
  | i + 1 => (Jvm.Free.Multi.fill (fill3 s c c1 c2 N M L dv i) c1 c2 M L dv M).setCell s.heap.size (outer3 c N s.heap.size (1 + M) (i + 1))
theorem outer3_facts (c : ClassId) (N h0 w : Nat) : ∀ i, (outer3 c N h0 w i).cls = c ∧ (outer3 c N h0 w i).vm = .none ∧ (outer3 c N h0 w i).slots.size = N
  | 0 => ⟨rfl, rfl, by simp [outer3]⟩
  | i + 1 => by
    obtain ⟨a, b, d⟩ := outer3_facts c N h0 w i
    exact ⟨by simp [outer3, Cell.setSlot, a], by simp [outer3, Cell.setSlot, b], by simp [outer3, Cell.setSlot, d]⟩
theorem fill3_facts (s : State) (c c1 c2 : ClassId) (N M L : Nat) (dv : Value) : ∀ i, (fill3 s c c1 c2 N M L dv i).heap.size = s.heap.size + 1 + i * (1 + M) ∧ (fill3 s c c1 c2 N M L dv i).heap[s.heap.size]? = some (outer3 c N s.heap.size (1 + M) i) ∧
    (fill3 s c c1 c2 N M L dv i).vm = s.vm ∧ (fill3 s c c1 c2 N M L dv i).slotsUsed = s.slotsUsed + N + i * (M + M * L)
  | 0 => ⟨by simp [fill3], by simp [fill3], rfl, by simp [fill3, outer3]⟩
  | i + 1 => by
    obtain ⟨a, b, d, u⟩ := fill3_facts s c c1 c2 N M L dv i
    obtain ⟨f1, f2, f3, f4⟩ := Jvm.Free.Multi.fill_facts (fill3 s c c1 c2 N M L dv i) c1 c2 M L dv M
    have hlt : s.heap.size < (fill3 s c c1 c2 N M L dv i).heap.size := by rw [a]; omega
    have hb' : (Jvm.Free.Multi.fill (fill3 s c c1 c2 N M L dv i) c1 c2 M L dv M).heap[s.heap.size]? = some (outer3 c N s.heap.size (1 + M) i) := by rw [Jvm.Free.Multi.fill_old _ _ _ _ _ _ hlt]; exact b
    have e1 : (i + 1) * (1 + M) = i * (1 + M) + (1 + M) := Nat.succ_mul _ _
    have e2 : (i + 1) * (M + M * L) = i * (M + M * L) + (M + M * L) := Nat.succ_mul _ _
    refine ⟨?_, State.heap_setCell_self hb', by simp [fill3, f3, d], ?_⟩
    · simp [fill3, State.setCell, f1, a, e1]; omega
    · have e3 : (outer3 c N s.heap.size (1 + M) (i + 1)).slots.size = (outer3 c N s.heap.size (1 + M) i).slots.size := by rw [(outer3_facts c N s.heap.size (1 + M) (i + 1)).2.2, (outer3_facts c N s.heap.size (1 + M) i).2.2]
      show ((Jvm.Free.Multi.fill (fill3 s c c1 c2 N M L dv i) c1 c2 M L dv M).setCell s.heap.size _).slotsUsed = _
      simp [f4, u, e2]
      omega
theorem fill3_setTop (s : State) (f : JFrame) (c c1 c2 : ClassId) (N M L : Nat) (dv : Value) : ∀ i, fill3 (s.setTop f) c c1 c2 N M L dv i = (fill3 s c c1 c2 N M L dv i).setTop f
  | 0 => rfl
  | i + 1 => by simp only [fill3, fill3_setTop s f c c1 c2 N M L dv i, Jvm.Free.Multi.fill_setTop, State.heap_setTop, State.pushCell_setTop, State.setCell_setTop]
theorem fill3_old (s : State) (c c1 c2 : ClassId) (N M L : Nat) (dv : Value) {a : Addr} (ha : a < s.heap.size) : ∀ i, (fill3 s c c1 c2 N M L dv i).heap[a]? = s.heap[a]?
  | 0 => State.heap_pushCell_of_lt _ _ ha
  | i + 1 => by
    have f1 := (fill3_facts s c c1 c2 N M L dv i).1
    have hlt : a < (fill3 s c c1 c2 N M L dv i).heap.size := Nat.lt_of_lt_of_le ha (by rw [f1]; omega)
    show ((Jvm.Free.Multi.fill (fill3 s c c1 c2 N M L dv i) c1 c2 M L dv M).setCell s.heap.size _).heap[a]? = _
    rw [State.heap_setCell_other (Nat.ne_of_gt ha), Jvm.Free.Multi.fill_old _ _ _ _ _ _ hlt]
    exact fill3_old s c c1 c2 N M L dv ha i
theorem mul_lt_step {j i w : Nat} (h : j < i) : j * w + w ≤ i * w := by
  have := Nat.mul_le_mul_right w (show j + 1 ≤ i from h)
  rw [Nat.succ_mul] at this
  exact this
theorem fill3_mid (s : State) (c c1 c2 : ClassId) (N M L : Nat) (dv : Value) : ∀ i j, j < i → (fill3 s c c1 c2 N M L dv i).heap[s.heap.size + 1 + j * (1 + M)]? = some (Jvm.Free.Multi.outerC c1 M (s.heap.size + 1 + j * (1 + M)) M) ∧ ∀ q, q < M → (fill3 s c c1 c2 N M L dv i).heap[s.heap.size + 1 + j * (1 + M) + 1 + q]? = some (Jvm.Free.Multi.innerC c2 L dv)
  | 0, _, h => absurd h (Nat.not_lt_zero _)
  | i + 1, j, h => by
    have f1 := (fill3_facts s c c1 c2 N M L dv i).1
    have sh : ∀ x : Nat, x ≠ s.heap.size → (fill3 s c c1 c2 N M L dv (i + 1)).heap[x]? = (Jvm.Free.Multi.fill (fill3 s c c1 c2 N M L dv i) c1 c2 M L dv M).heap[x]? := fun x hx => by
      show ((Jvm.Free.Multi.fill (fill3 s c c1 c2 N M L dv i) c1 c2 M L dv M).setCell s.heap.size _).heap[x]? = _
      rw [State.heap_setCell_other (fun q => hx q.symm)]
    rcases Nat.lt_or_ge j i with hj | hj
    · obtain ⟨m1, m2⟩ := fill3_mid s c c1 c2 N M L dv i j hj
      have hw := mul_lt_step (w := 1 + M) hj
      refine ⟨?_, fun q hq => ?_⟩
      · have hx : s.heap.size + 1 + j * (1 + M) < (fill3 s c c1 c2 N M L dv i).heap.size := by rw [f1]; omega
        rw [sh _ (by omega), Jvm.Free.Multi.fill_old _ _ _ _ _ _ hx]; exact m1
      · have hx : s.heap.size + 1 + j * (1 + M) + 1 + q < (fill3 s c c1 c2 N M L dv i).heap.size := by rw [f1]; omega
        rw [sh _ (by omega), Jvm.Free.Multi.fill_old _ _ _ _ _ _ hx]; exact m2 q hq
    · have e : j = i := by omega
      subst e
      obtain ⟨g1, g2, g3, g4⟩ := Jvm.Free.Multi.fill_facts (fill3 s c c1 c2 N M L dv j) c1 c2 M L dv M
      rw [f1] at g2
      refine ⟨?_, fun q hq => ?_⟩
      · rw [sh _ (by omega)]; exact g2
      · rw [sh _ (by omega)]
        have := Jvm.Free.Multi.fill_inner (fill3 s c c1 c2 N M L dv j) c1 c2 M L dv M q hq
        rw [f1] at this
        exact this
theorem outer3_slot (c : ClassId) (N h0 w : Nat) : ∀ i j, j < N → (outer3 c N h0 w i).slots[j]? = some (if j < i then .ref (h0 + 1 + j * w) else .null)
  | 0, j, h => by simp [outer3, h]
  | i + 1, j, h => by
    have ih := outer3_slot c N h0 w i j h
    have hs := (outer3_facts c N h0 w i).2.2
    show ((outer3 c N h0 w i).setSlot i (.ref (h0 + 1 + i * w))).slots[j]? = _
    simp only [Cell.setSlot, Array.getElem?_setIfInBounds]
    by_cases e : i = j
    · subst e; simp [hs, h]
    · rw [if_neg e, ih]
      by_cases hj : j < i
      · rw [if_pos hj, if_pos (by omega)]
      · rw [if_neg hj, if_neg (by omega)]
section
variable {E : CtlPost} {e : Env} {d : Bool} {acts : List Action} {s : State}
theorem wp_make3 {c c1 c2 c3 : ClassId} {k k1 k2 : Class} {type : FieldType} {n m q : Int32} (hk : s.vm.classes[c]? = some k) (hkind : k.kind = .array c1 (.array (.array type)))
    (hk1 : s.vm.classes[c1]? = some k1) (hkind1 : k1.kind = .array c2 (.array type)) (hk2 : s.vm.classes[c2]? = some k2) (hkind2 : k2.kind = .array c3 type) (hn : ¬ n < 0) (hm : ¬ m < 0) (hq0 : ¬ q < 0)
    (hl1 : ¬ n.toNatClampNeg > e.platform.arrayLengthLimit) (hh1 : ¬ n.toNatClampNeg * 4 > e.platform.maxHeapBytes)
    (hl2 : ¬ m.toNatClampNeg > e.platform.arrayLengthLimit) (hh2 : ¬ m.toNatClampNeg * 4 > e.platform.maxHeapBytes)
    (hl3 : ¬ q.toNatClampNeg > e.platform.arrayLengthLimit) (hh3 : ¬ q.toNatClampNeg * componentBytes type > e.platform.maxHeapBytes)
    (hdf : fits type (defaultValue type) = true) (hdd : (defaultValue type).isDefault = true)
    (hc : s.heap.size + 1 + n.toNatClampNeg * (1 + m.toNatClampNeg) ≤ e.platform.maxCells) (hs : s.slotsUsed + n.toNatClampNeg + n.toNatClampNeg * (m.toNatClampNeg + m.toNatClampNeg * q.toNatClampNeg) ≤ e.platform.maxSlots)
    {Q : Addr → Pre} (hq : ∀ d' acts', Q s.heap.size d' acts' (fill3 s c c1 c2 n.toNatClampNeg m.toNatClampNeg q.toNatClampNeg (defaultValue type) n.toNatClampNeg)) :
    wp (multianewarray.make c [n, m, q]) Q E e d acts s := by
  have hfind : ([m, q].find? (· < 0)) = none := by simp [hm, hq0]
  rw [multianewarray.make]
  simp only [wp_bind', W.ite, hn, if_false, wp_pure', W.theClass, hk, hkind, Option.some.injEq, exists_eq_left']
  refine Jvm.Free.Multi.wp_newArray hk hkind hl1 hh1 (Jvm.Free.Multi.refFits rfl _ (Or.inl rfl)) rfl (by omega) (by have := Nat.zero_le (n.toNatClampNeg * (m.toNatClampNeg + m.toNatClampNeg * q.toNatClampNeg)); omega) ?_
  simp only [hfind]
  rw [ite_self, wp_bind', Std.Legacy.Range.forIn_eq_forIn_range']
  have hsz : ([:n.toNatClampNeg] : Std.Legacy.Range).size = n.toNatClampNeg := by simp [Std.Legacy.Range.size]
  rw [hsz]
  show wp (forIn (List.range' 0 n.toNatClampNeg 1) PUnit.unit _) _ E e d acts _
  refine wp_forIn_inv (fun rest s' => ∃ i, i ≤ n.toNatClampNeg ∧ rest = List.range' i (n.toNatClampNeg - i) ∧ s' = fill3 s c c1 c2 n.toNatClampNeg m.toNatClampNeg q.toNatClampNeg (defaultValue type) i) _ _ ⟨0, Nat.zero_le _, rfl, rfl⟩ ?_ ?_
  · rintro x rest s' d' acts' Q' ⟨i, hi, hl, rfl⟩ hnext
    have hlt : i < n.toNatClampNeg := by
      rcases Nat.lt_or_ge i n.toNatClampNeg with h | h
      · exact h
      · rw [show n.toNatClampNeg - i = 0 from by omega] at hl; simp at hl
    obtain ⟨rfl, hrest⟩ : x = i ∧ rest = List.range' (i + 1) (n.toNatClampNeg - (i + 1)) := by
      rw [show n.toNatClampNeg - i = (n.toNatClampNeg - (i + 1)) + 1 from by omega, List.range'_succ] at hl
      exact ⟨(List.cons.inj hl).1, (List.cons.inj hl).2⟩
    obtain ⟨f1, f2, f3, f4⟩ := fill3_facts s c c1 c2 n.toNatClampNeg m.toNatClampNeg q.toNatClampNeg (defaultValue type) x
    obtain ⟨o1, o2, o3⟩ := outer3_facts c n.toNatClampNeg s.heap.size (1 + m.toNatClampNeg) x
    have hmul := mul_lt_step (w := 1 + m.toNatClampNeg) hlt
    have hmul2 := mul_lt_step (w := m.toNatClampNeg + m.toNatClampNeg * q.toNatClampNeg) hlt
    simp only [wp_bind']
    refine Jvm.Free.Multi.wp_make2 (by rw [f3]; exact hk1) hkind1 rfl (by rw [f3]; exact hk2) hkind2 hm hq0 hl2 hh2 hl3 hh3 hdf hdd (by rw [f1]; omega) (by rw [f4]; omega) (fun d1 acts1 => ?_)
    have hlt0 : s.heap.size < (fill3 s c c1 c2 n.toNatClampNeg m.toNatClampNeg q.toNatClampNeg (defaultValue type) x).heap.size := by rw [f1]; omega
    obtain ⟨g1, g2, g3, g4⟩ := Jvm.Free.Multi.fill_facts (fill3 s c c1 c2 n.toNatClampNeg m.toNatClampNeg q.toNatClampNeg (defaultValue type) x) c1 c2 m.toNatClampNeg q.toNatClampNeg (defaultValue type) m.toNatClampNeg
    simp only [wp_bind', W.writeLoc, wp_pure']
    refine ⟨outer3 c n.toNatClampNeg s.heap.size (1 + m.toNatClampNeg) x, by rw [Jvm.Free.Multi.fill_old _ _ _ _ _ _ hlt0]; exact f2, by rw [o2]; simp, by rw [o3]; exact hlt, ?_, hnext _ _ _ ⟨x + 1, hlt, hrest, ?_⟩⟩
    · rw [o1, o2]
      simp [State.fitsSlot, State.slotType?, g3, f3, hk, hkind, Jvm.Free.Multi.refFits (t := .array (.array type)) rfl _ (Or.inr ⟨_, rfl⟩)]
    · rw [f1]; rfl
  · rintro s' d' acts' ⟨i, hi, hl, rfl⟩
    have hiN : i = n.toNatClampNeg := by
      rcases Nat.lt_or_ge i n.toNatClampNeg with h | h
      · rw [show n.toNatClampNeg - i = (n.toNatClampNeg - (i + 1)) + 1 from by omega, List.range'_succ] at hl; cases hl
      · omega
    subst hiN
    simp only [wp_pure']
    exact hq _ _
end
section M3
variable {p : Program} {l : Launch} {e : Env} {R : Room} {s : State} {m : MethodId} {args : Array Value} {below : List Frame} {meth : Method} {c : Code} {T : State} {locs : List Loc} {cells slots : Nat}
theorem filled3 (X : Stand p l e R s m args below meth c T locs cells slots) (cA c1 c2 : ClassId) (N M L : Nat) (dv : Value) :
    ∀ i, ∃ locs1 : List Loc, (∀ q ∈ locs1, T.heap.size ≤ q.base) ∧ Stand p l e R s m args below meth c (fill3 T cA c1 c2 N M L dv i) (locs ++ locs1) (cells + 1 + i * (1 + M)) (slots + N + i * (M + M * L))
  | 0 => by
    have h := X.pushed (outer3 cA N T.heap.size (1 + M) 0)
    rw [(outer3_facts cA N T.heap.size (1 + M) 0).2.2] at h
    exact ⟨[], ⟨fun q hq => absurd hq (by simp), by simpa [fill3] using h⟩⟩
  | i + 1 => by
    obtain ⟨L1, hL1, Xi⟩ := filled3 X cA c1 c2 N M L dv i
    obtain ⟨f1, f2, f3, f4⟩ := fill3_facts T cA c1 c2 N M L dv i
    have hlt0 : T.heap.size < (fill3 T cA c1 c2 N M L dv i).heap.size := by rw [f1]; omega
    have X2 := Jvm.Stand.filled Xi c1 c2 M L dv M
    have hcell : (Jvm.Free.Multi.fill (fill3 T cA c1 c2 N M L dv i) c1 c2 M L dv M).heap[T.heap.size]? = some (outer3 cA N T.heap.size (1 + M) i) := by rw [Jvm.Free.Multi.fill_old _ _ _ _ _ _ hlt0]; exact f2
    have h := X2.stored hcell i (.ref (T.heap.size + 1 + i * (1 + M)))
    have e3 : cells + 1 + (i + 1) * (1 + M) = cells + 1 + i * (1 + M) + 1 + M := by rw [Nat.succ_mul]; omega
    have e4 : slots + N + (i + 1) * (M + M * L) = slots + N + i * (M + M * L) + M + M * L := by rw [Nat.succ_mul]; omega
    refine ⟨L1 ++ ((List.range M).map (fun j => (⟨(fill3 T cA c1 c2 N M L dv i).heap.size, j⟩ : Loc)) ++ [⟨T.heap.size, i⟩]), fun q hq => ?_, ?_⟩
    · rcases List.mem_append.mp hq with h1 | h1
      · exact hL1 q h1
      · rcases List.mem_append.mp h1 with h2 | h2
        · obtain ⟨j, -, rfl⟩ := List.mem_map.mp h2
          exact Nat.le_of_lt hlt0
        · rw [List.mem_singleton.mp h2]
          exact Nat.le_refl _
    · rw [e3, e4]
      have h2 := h
      rw [List.append_assoc, List.append_assoc] at h2
      exact h2
theorem multi3 (X : Stand p l e R s m args below meth c T locs cells slots) (hexec : p.tables.exec = Jvm.exec) {own : String} {index : Nat} {ty : FieldType}
    (hown : s.vm.findClass own = some m.cls) (hclink : (Cond.classLink own index ("[" ++ (FieldType.array (.array ty)).toString)).before args s = true)
    (hover2 : (Cond.arrayOver (.array (.array ty))).before args s = true) (hover : (Cond.arrayOver (.array ty)).before args s = true) (harr : (Cond.arrayClass ty).before args s = true)
    {g : JFrame} (hg : g.method = m) (hdg : decode c.code g.pc = .ok (.multianewarray index 3, 4)) {n k q : Int32} {rest : List Value} (hstack : g.stack = .int q :: .int k :: .int n :: rest)
    (hn : ¬ n < 0) (hk : ¬ k < 0) (hq : ¬ q < 0) (hb1 : n.toNatClampNeg * 4 ≤ 536870912) (hb2 : k.toNatClampNeg * 4 ≤ 536870912) (hb3 : q.toNatClampNeg * componentBytes ty ≤ 536870912) (hb4 : q.toNatClampNeg ≤ 536870912)
    (hdf : fits ty (defaultValue ty) = true) (hdd : (defaultValue ty).isDefault = true)
    (hcells : cells + (1 + n.toNatClampNeg * (1 + k.toNatClampNeg)) ≤ R.cells) (hslots : slots + (n.toNatClampNeg + n.toNatClampNeg * (k.toNatClampNeg + k.toNatClampNeg * q.toNatClampNeg)) ≤ R.slots) :
    ∃ (vm₁ : Vm) (cA c1 c2 : ClassId), s.WarmedH vm₁ ∧ s.vm.findClass ("[" ++ (FieldType.array (.array ty)).toString) = some cA ∧ s.vm.findClass (FieldType.array (.array ty)).toString = some c1 ∧ s.vm.findClass (FieldType.array ty).toString = some c2 ∧
      Stand p l e R s m args below meth c (fill3 (T.setVm vm₁) cA c1 c2 n.toNatClampNeg k.toNatClampNeg q.toNatClampNeg (defaultValue ty) n.toNatClampNeg) locs (cells + 1 + n.toNatClampNeg * (1 + k.toNatClampNeg)) (slots + n.toNatClampNeg + n.toNatClampNeg * (k.toNatClampNeg + k.toNatClampNeg * q.toNatClampNeg)) ∧
      ∀ target, Steps p.tables e below ((fill3 (T.setVm vm₁) cA c1 c2 n.toNatClampNeg k.toNatClampNeg q.toNatClampNeg (defaultValue ty) n.toNatClampNeg).setTop { g with pc := g.pc + 4, stack := .ref T.heap.size :: rest }) target →
        Steps p.tables e below (T.setTop g) target := by
  subst hg
  have hpl : e.platform.magicAccessors = ({} : Platform).magicAccessors := by rw [X.admits.platform]
  obtain ⟨c1, cA, kA, hcomp, hkA, hkindA, hnameA⟩ := Cond.arrayOver_specA hover2
  obtain ⟨c2, c1', k1, hcomp1, hk1, hkind1, hname1⟩ := Cond.arrayOver_specA hover
  have e1 : c1' = c1 := Option.some.inj (hname1.symm.trans hcomp)
  subst e1
  obtain ⟨c2', k2, c3, hcomp2, hk2, hkind2⟩ := Cond.arrayClass_spec harr
  have e2 : c2' = c2 := Option.some.inj (hcomp2.symm.trans hcomp1)
  subst e2
  obtain ⟨c0, hfc0, hcl⟩ := Cond.classLink_spec hown hclink e.platform hpl
  cases hnameA.symm.trans hfc0
  obtain ⟨hg₁, hwarm₁, hready₁⟩ := State.classEntry (e := e) X.warmed hcl
  generalize T.vm.noted g.method.cls index (.cls cA) = vm₁ at hg₁ hwarm₁ hready₁
  have hal : s.vm.Alike vm₁ := hwarm₁.alike
  obtain ⟨kA₁, hkA₁, heA⟩ := hal.2.2 _ _ hkA
  obtain ⟨k1₁, hk1₁, he1⟩ := hal.2.2 _ _ hk1
  obtain ⟨k2₁, hk2₁, he2⟩ := hal.2.2 _ _ hk2
  have hkindA₁ : kA₁.kind = .array c1' (.array (.array ty)) := by rw [heA]; exact hkindA
  have hkind1₁ : k1₁.kind = .array c2' (.array ty) := by rw [he1]; exact hkind1
  have hkind2₁ : k2₁.kind = .array c3 ty := by rw [he2]; exact hkind2
  have X₁ := X.noted hwarm₁
  obtain ⟨hr1, hr2⟩ := X.roomAbove hcells hslots
  obtain ⟨locs1, hL, XF⟩ := filled3 X₁ cA c1' c2' n.toNatClampNeg k.toNatClampNeg q.toNatClampNeg (defaultValue ty) n.toNatClampNeg
  refine ⟨vm₁, cA, c1', c2', hwarm₁, hnameA, hcomp, hcomp1, XF.dropFresh (fun x hx => Nat.le_trans X.heapGrown (hL x hx)), fun target hrest => ?_⟩
  have hl1 : ¬ n.toNatClampNeg > e.platform.arrayLengthLimit := by rw [Launch.admits_arrayLengthLimit X.admits]; omega
  have hh1 : ¬ n.toNatClampNeg * 4 > e.platform.maxHeapBytes := by rw [Launch.admits_maxHeapBytes X.admits]; omega
  have hl2 : ¬ k.toNatClampNeg > e.platform.arrayLengthLimit := by rw [Launch.admits_arrayLengthLimit X.admits]; omega
  have hh2 : ¬ k.toNatClampNeg * 4 > e.platform.maxHeapBytes := by rw [Launch.admits_maxHeapBytes X.admits]; omega
  have hl3 : ¬ q.toNatClampNeg > e.platform.arrayLengthLimit := by rw [Launch.admits_arrayLengthLimit X.admits]; omega
  have hh3 : ¬ q.toNatClampNeg * componentBytes ty > e.platform.maxHeapBytes := by rw [Launch.admits_maxHeapBytes X.admits]; omega
  jvm_step X.here [hexec, hdg]
  simp only [multianewarray.sem, wp_bind', W.resolveClassAt_links (State.method?_setTop g X.here.top) hg₁]
  rw [W.popN, if_neg (by decide)]
  refine ⟨g, State.topJava?_setTop' (s := T.setVm vm₁) g X.here.top, [.int n, .int k, .int q], rest, rfl, hstack, ?_⟩
  simp only [List.mapM_cons, List.mapM_nil, wp_bind', wp_pure']
  refine wp_make3 (k := kA₁) (k1 := k1₁) (k2 := k2₁) hkA₁ hkindA₁ hk1₁ hkind1₁ hk2₁ hkind2₁ hn hk hq hl1 hh1 hl2 hh2 hl3 hh3 hdf hdd (by show T.heap.size + 1 + _ ≤ _; omega) (by show T.slotsUsed + _ + _ ≤ _; omega) (fun d' acts' => ?_)
  have eS : ((T.setTop g).setVm vm₁).setTop { g with stack := rest } = (T.setVm vm₁).setTop { g with stack := rest } := by
    show ((T.setVm vm₁).setTop g).setTop _ = _
    rw [State.setTop_setTop]
  rw [eS, fill3_setTop]
  simp only [wp_bind', W.mark, W.pushRef, State.topJava?_setTop' _ XF.here.top, Option.some.injEq, exists_eq_left', State.setTop_setTop, State.heap_setTop]
  intro acts
  simp [jvm, XF.here.top]
  exact hrest
end M3
/-! rows of new arrays -/
def gExt (G G1 : gT) : Prop := ∀ (b t : Nat) (e : va_E), G b = some (t, e) → G1 b = some (t, e)
theorem gExt.gF {G G1 : gT} (h : gExt G G1) {S : Nat → Prop} : gF S G G1 := ⟨fun a t e ha _ => h a t e ha, fun a t ci fs ha => ⟨fs, h a t _ ha⟩⟩
theorem gExt.new {G : gT} {a t : Nat} {e : va_E} (ha : G a = none) : gExt G (gU G a t e) := fun b u x hb => by rw [gU_ne (fun q => by rw [q, ha] at hb; cases hb)]; exact hb
theorem arrV_eq {cA : ClassId} {N : Nat} {f g : Nat → Value} (h : ∀ j, j < N → f j = g j) : arrV cA N f = arrV cA N g := by
  unfold arrV
  have e : (Array.ofFn fun j : Fin N => f j.val) = Array.ofFn fun j : Fin N => g j.val := by
    congr 1
    funext j
    exact h j.val j.isLt
  rw [e]
/-- many new cells at the heap's end -/
theorem gH.many {K : gK} {G G1 : gT} {H H1 : Heap} (h : gH K G H) (hz : H.size ≤ H1.size) (ho : ∀ q : Nat, q < H.size → H1[q]? = H[q]?) (h1 : ∀ a, a < H.size → G1 a = G a) (h2 : ∀ a t e, H.size ≤ a → G1 a = some (t, e) → va_at (kD K) gcl (a, e) H1) : gH K G1 H1 ∧ gExt G G1 := by
  refine ⟨⟨fun a t e ha => ?_, fun a ha => ?_, Nat.le_trans h.2.2 hz⟩, fun b t e hb => ?_⟩
  · rcases Nat.lt_or_ge a H.size with q | q
    · rw [h1 a q] at ha
      exact (h.1 a t e ha).kept (ho a q)
    · exact h2 a t e q ha
  · rw [h1 a (Nat.lt_of_lt_of_le ha h.2.2)]
    exact h.2.1 a ha
  · rw [h1 b (h.lt hb)]
    exact hb
section NA
variable {p : Program} {l : Launch} {e : Env} {R : Room} {s : State} {m : MethodId} {args : Array Value} {below : List Frame} {meth : Method} {c : Code} {H : Heap} {locs : List Loc} {cells slots : Nat} {Q : State → Prop}
variable {cc : ByteArray} {pc : Nat} {ls : Array Slot} {rest : List Value} {K : gK} {own : String} {nL : Nat} {G : gT}
theorem g_newa (X : gC K p s m args meth c cc nL own) (hG : gH K G H) (hS : va_S (gA K) s.heap H locs) {atype : ArrayType} (k : Nat) {cA : ClassId} (hk : (gty K)[k]? = some (cA, newarray.typeOf atype)) (hra : ∀ U, va_RA U cA (newarray.typeOf atype) → U.vm.findClass ("[" ++ (newarray.typeOf atype).toString) = some cA) (harr : Cond.arrayClass (newarray.typeOf atype) ∈ lw_all)
    {n : Int32} {N : Nat} (hn : n = nI N) (hN : N * 8 ≤ 536870912) (hw : componentBytes (newarray.typeOf atype) ≤ 8) (t : Nat) {a0 : vp_A} (ha : vp_cell cA a0 = arrV cA N (fun _ => defaultValue (newarray.typeOf atype))) (hcells : cells + 1 ≤ R.cells) (hslots : slots + N ≤ R.slots) (hdg : decode cc pc = .ok (.newarray atype, 2))
    (kk : ∀ (q : Nat) (H1 : Heap), G q = none → gA K q → gH K (gU G q t (.inl (cA, a0))) H1 → va_S (gA K) s.heap H1 locs → W p l e R s m args below meth c H1 locs (cells + 1) (slots + N) Q (F0 m (pc + 2) ls (.ref q :: rest))) : W p l e R s m args below meth c H locs cells slots Q (F0 m pc ls (.int n :: rest)) := by
  subst hn
  have hb : N * componentBytes (newarray.typeOf atype) ≤ 536870912 := Nat.le_trans (Nat.mul_le_mul_left N hw) hN
  refine va_newaK X.1.1 X.1.2.1 (X.1.2.2.2.2 _ harr) rfl hdg rfl (nI_pos (by omega)) (nI_clamp (by omega)) hb hcells hslots rfl fun H1 cA1 e1 z1 o1 hAr hNm => ?_
  have hc : cA1 = cA := Option.some.inj (hNm.symm.trans (hra s (X.2.1.1.2 k _ hk).2))
  subst hc
  refine kk H.size H1 hG.new hG.2.2 (hG.push ?_ z1 o1) (gS.push hS z1 o1)
  show H1[H.size]? = some (vp_cell _ _)
  rw [ha]
  exact e1
theorem g_newq (X : gC K p s m args meth c cc nL own) (hG : gH K G H) (hS : va_S (gA K) s.heap H locs) {C : String} {index : Nat} (k : Nat) {cA : ClassId} (hk : (gty K)[k]? = some (cA, .object C)) (hcl : Cond.classLink own index C ∈ lw_all) (hover : va_AO C s)
    {n : Int32} {N : Nat} (hn : n = nI N) (hN : N * 8 ≤ 536870912) (t : Nat) (hcells : cells + 1 ≤ R.cells) (hslots : slots + N ≤ R.slots) (hdg : decode cc pc = .ok (.anewarray index, 3))
    (kk : ∀ (q : Nat) (H1 : Heap), G q = none → gA K q → gH K (gU G q t (.inl (cA, N, .inr (.inr (.inr (.inr (fun _ => none))))))) H1 → va_S (gA K) s.heap H1 locs → W p l e R s m args below meth c H1 locs (cells + 1) (slots + N) Q (F0 m (pc + 3) ls (.ref q :: rest))) : W p l e R s m args below meth c H locs cells slots Q (F0 m pc ls (.int n :: rest)) := by
  subst hn
  have hc31 : (nI N).toNatClampNeg = N := nI_clamp (by omega)
  refine W.anew X.1.1 X.1.2.1 X.1.2.2.2.1 (X.1.2.2.2.2 _ hcl) (va_AO.use hover) rfl hdg rfl (nI_pos (by omega)) (by rw [hc31]; omega) hcells (by rw [hc31]; exact hslots) fun cA1 kA1 comp f1 f2 f3 f4 => ?_
  obtain ⟨_, _, _, _, _, g4⟩ := (X.2.1.1.2 k _ hk).2
  have hc : cA1 = cA := Option.some.inj (f1.symm.trans g4)
  subst hc
  rw [hc31]
  generalize hH1 : H.push ({ cls := cA1, slots := Array.replicate N .null, vm := .none } : Cell) = H1
  have z1 : H1.size = H.size + 1 := by rw [← hH1, Array.size_push]
  have e1 : H1[H.size]? = some (arrV cA1 N (fun _ => .null)) := by rw [← hH1, Array.getElem?_push_size, ← arrV_new]
  have o1 : ∀ q : Nat, q < H.size → H1[q]? = H[q]? := fun q hq => by rw [← hH1, Array.getElem?_push, if_neg (Nat.ne_of_lt hq)]
  exact kk H.size H1 hG.new hG.2.2 (hG.push e1 z1 o1) (gS.push hS z1 o1)
theorem out_shape (cA : ClassId) (N h0 w : Nat) : ∀ i, ∃ S, outer3 cA N h0 w i = { cls := cA, slots := S, vm := .none }
  | 0 => ⟨_, rfl⟩
  | i + 1 => by
    obtain ⟨S, hS⟩ := out_shape cA N h0 w i
    exact ⟨_, by rw [outer3, hS]; rfl⟩
theorem outC_shape (cA : ClassId) (N h0 : Nat) : ∀ i, ∃ S, Jvm.Free.Multi.outerC cA N h0 i = { cls := cA, slots := S, vm := .none }
  | 0 => ⟨_, rfl⟩
  | i + 1 => by
    obtain ⟨S, hS⟩ := outC_shape cA N h0 i
    exact ⟨_, by rw [Jvm.Free.Multi.outerC, hS]; rfl⟩
theorem out_cell {cA : ClassId} {N h0 w : Nat} : outer3 cA N h0 w N = arrV cA N (fun j => .ref (h0 + 1 + j * w)) := by
  obtain ⟨o1, o2, o3⟩ := outer3_facts cA N h0 w N
  have hs : (outer3 cA N h0 w N).slots = Array.ofFn (n := N) fun j => Value.ref (h0 + 1 + j.val * w) := by
    apply Array.ext_getElem?
    intro i
    rcases Nat.lt_or_ge i N with h | h
    · rw [outer3_slot cA N h0 w N i h, if_pos h]
      simp [h]
    · rw [Array.getElem?_eq_none (by rw [o3]; exact h), Array.getElem?_eq_none (by simpa using h)]
  obtain ⟨S, hS⟩ := out_shape cA N h0 w N
  unfold arrV
  rw [← hs, hS]
theorem outC_cell {cA : ClassId} {N h0 : Nat} : Jvm.Free.Multi.outerC cA N h0 N = arrV cA N (fun j => .ref (h0 + 1 + j)) := by
  obtain ⟨o1, o2, o3⟩ := Jvm.Free.Multi.outerC_facts cA N h0 N
  have hs : (Jvm.Free.Multi.outerC cA N h0 N).slots = Array.ofFn (n := N) fun j => Value.ref (h0 + 1 + j.val) := by
    apply Array.ext_getElem?
    intro i
    rcases Nat.lt_or_ge i N with h | h
    · rw [Jvm.Free.Multi.outerC_slot cA N h0 N i h, if_pos h]
      simp [h]
    · rw [Array.getElem?_eq_none (by rw [o3]; exact h), Array.getElem?_eq_none (by simpa using h)]
  obtain ⟨S, hS⟩ := outC_shape cA N h0 N
  unfold arrV
  rw [← hs, hS]
theorem inC_cell {cA : ClassId} {N : Nat} {dv : Value} : Jvm.Free.Multi.innerC cA N dv = arrV cA N (fun _ => dv) := by
  rw [← arrV_new]; rfl
abbrev refC (cA : ClassId) (N : Nat) (f : Nat → Nat) : va_E := .inl (cA, N, .inr (.inr (.inr (.inr (fun j => some (f j))))))
abbrev lngC (cA : ClassId) (N : Nat) (f : Nat → Int64) : va_E := .inl (cA, N, .inr (.inl f))
/-- two dimensions of long -/
theorem g_mnew2 (X : gC K p s m args meth c cc nL own) (hG : gH K G H) (hS : va_S (gA K) s.heap H locs) {index : Nat} (hcl : Cond.classLink own index "[[J" ∈ lw_all)
    {n k : Int32} {N M : Nat} (hn : n = nI N) (hk : k = nI M) (hN : N * 8 ≤ 536870912) (hM : M * 8 ≤ 536870912) (t0 : Nat) (t1 : Nat → Nat) (hcells : cells + (1 + N) ≤ R.cells) (hslots : slots + (N + N * M) ≤ R.slots) (hdg : decode cc pc = .ok (.multianewarray index 2, 4))
    (kk : ∀ (h : Nat) (G1 : gT) (H1 : Heap), gExt G G1 → gA K h → (∀ b, b < h → G1 b = G b) → G1 h = some (t0, refC (kA K 5) N (fun j => h + 1 + j)) → (∀ j, j < N → G1 (h + 1 + j) = some (t1 j, lngC (kA K 1) M (fun _ => 0))) → gH K G1 H1 → va_S (gA K) s.heap H1 locs →
      W p l e R s m args below meth c H1 locs (cells + 1 + N) (slots + N + N * M) Q (F0 m (pc + 4) ls (.ref h :: rest))) : W p l e R s m args below meth c H locs cells slots Q (F0 m pc ls (.int k :: .int n :: rest)) := by
  subst hn
  subst hk
  have c1 : (nI N).toNatClampNeg = N := nI_clamp (by omega)
  have c2 : (nI M).toNatClampNeg = M := nI_clamp (by omega)
  intro T hT X0
  subst hT
  have hover : (Cond.arrayOver (.array .long)).before args s = true := gAO.use X.2.1.2.2.2.1.2.2.2.2.2.2.2.2.1
  obtain ⟨vm₁, cA, comp, hW, hfA, hfC, hO, hI, X1, st⟩ := X0.multianewarray2F X.1.1 (own := own) (index := index) (ty := .long) X.1.2.2.2.1 (X.1.2.2.2.2 _ hcl) hover (X.1.2.2.2.2 _ q965) (g := F0 m pc ls (.int (nI M) :: .int (nI N) :: rest)) rfl (by rw [X.1.2.1]; exact hdg) rfl (nI_pos (by omega)) (nI_pos (by omega)) (by rw [c1]; omega) (by rw [c2]; show M * 8 ≤ _; exact hM) (by rw [c2]; omega) rfl rfl (by rw [c1]; exact hcells) (by rw [c1, c2]; exact hslots)
  rw [c1, c2] at X1 st
  have eA : cA = kA K 5 := Option.some.inj (hfA.symm.trans (X.2.1.1.2 5 _ rfl).2)
  have eC : comp = kA K 1 := Option.some.inj (hfC.symm.trans (X.2.1.1.2 1 _ rfl).2)
  subst eA
  subst eC
  obtain ⟨f1, f2, f3, f4⟩ := Jvm.Free.Multi.fill_facts (T.setVm vm₁) (kA K 5) (kA K 1) N M (defaultValue .long) N
  have hsz : (T.setVm vm₁).heap.size = T.heap.size := rfl
  rw [hsz] at f1 f2
  let G1 : gT := fun b => if b < T.heap.size then G b else if b = T.heap.size then some (t0, refC (kA K 5) N (fun j => T.heap.size + 1 + j)) else if b ≤ T.heap.size + N then some (t1 (b - T.heap.size - 1), lngC (kA K 1) M (fun _ => 0)) else none
  have hmany := hG.many (G1 := G1) (H1 := (Jvm.Free.Multi.fill (T.setVm vm₁) (kA K 5) (kA K 1) N M (defaultValue .long) N).heap) (by rw [f1]; omega) (fun q hq => Jvm.Free.Multi.fill_old (T.setVm vm₁) _ _ _ _ _ hq _) (fun a ha => if_pos ha) (fun a t e ha he => by
    rcases Nat.lt_or_ge T.heap.size a with q | q
    · have hn1 : ¬ a < T.heap.size := by omega
      have hn2 : ¬ a = T.heap.size := by omega
      simp only [G1, if_neg hn1, if_neg hn2] at he
      by_cases hle : a ≤ T.heap.size + N
      · rw [if_pos hle] at he
        cases he
        have := Jvm.Free.Multi.fill_inner (T.setVm vm₁) (kA K 5) (kA K 1) N M (defaultValue .long) N (a - T.heap.size - 1) (by omega)
        rw [hsz, show T.heap.size + 1 + (a - T.heap.size - 1) = a by omega, inC_cell] at this
        exact this
      · rw [if_neg hle] at he
        cases he
    · have e0 : a = T.heap.size := by omega
      subst e0
      simp only [G1, if_neg (Nat.lt_irrefl _), if_true] at he
      cases he
      show _ = some (vp_cell _ _)
      rw [f2, outC_cell]
      rfl)
  obtain ⟨tt, a1, b1⟩ := kk T.heap.size G1 _ hmany.2 hG.2.2 (fun b hb => if_pos hb) (by simp only [G1, if_neg (Nat.lt_irrefl _), if_true]) (fun j hj => by
    have hn1 : ¬ T.heap.size + 1 + j < T.heap.size := by omega
    have hn2 : ¬ T.heap.size + 1 + j = T.heap.size := by omega
    simp only [G1, if_neg hn1, if_neg hn2]
    rw [if_pos (by omega), show T.heap.size + 1 + j - T.heap.size - 1 = j by omega]) hmany.1 ⟨Nat.le_trans hS.1 (by rw [f1]; omega), fun x h1 h2 => (Jvm.Free.Multi.fill_old (T.setVm vm₁) _ _ _ _ _ (Nat.lt_of_lt_of_le h1 hS.1) _).trans (hS.2.1 x h1 h2), hS.2.2⟩ _ rfl X1
  exact ⟨tt, st tt a1, b1⟩
/-- three dimensions of long -/
theorem g_mnew3 (X : gC K p s m args meth c cc nL own) (hG : gH K G H) (hS : va_S (gA K) s.heap H locs) {index : Nat} (hcl : Cond.classLink own index "[[[J" ∈ lw_all)
    {n k q : Int32} {N M L : Nat} (hn : n = nI N) (hk : k = nI M) (hq : q = nI L) (hN : N * 8 ≤ 536870912) (hM : M * 8 ≤ 536870912) (hL : L * 8 ≤ 536870912) (t0 : Nat) (t1 : Nat → Nat) (t2 : Nat → Nat → Nat) (hcells : cells + (1 + N * (1 + M)) ≤ R.cells) (hslots : slots + (N + N * (M + M * L)) ≤ R.slots) (hdg : decode cc pc = .ok (.multianewarray index 3, 4))
    (kk : ∀ (h : Nat) (G1 : gT) (H1 : Heap), gExt G G1 → gA K h → (∀ b, b < h → G1 b = G b) → G1 h = some (t0, refC (kA K 6) N (fun j => h + 1 + j * (1 + M))) → (∀ j, j < N → G1 (h + 1 + j * (1 + M)) = some (t1 j, refC (kA K 5) M (fun b => h + 1 + j * (1 + M) + 1 + b)) ∧ ∀ b, b < M → G1 (h + 1 + j * (1 + M) + 1 + b) = some (t2 j b, lngC (kA K 1) L (fun _ => 0))) → gH K G1 H1 → va_S (gA K) s.heap H1 locs →
      W p l e R s m args below meth c H1 locs (cells + 1 + N * (1 + M)) (slots + N + N * (M + M * L)) Q (F0 m (pc + 4) ls (.ref h :: rest))) : W p l e R s m args below meth c H locs cells slots Q (F0 m pc ls (.int q :: .int k :: .int n :: rest)) := by
  subst hn
  subst hk
  subst hq
  have c1 : (nI N).toNatClampNeg = N := nI_clamp (by omega)
  have c2 : (nI M).toNatClampNeg = M := nI_clamp (by omega)
  have c3 : (nI L).toNatClampNeg = L := nI_clamp (by omega)
  intro T hT X0
  subst hT
  have hover : (Cond.arrayOver (.array .long)).before args s = true := gAO.use X.2.1.2.2.2.1.2.2.2.2.2.2.2.2.1
  have hover2 : (Cond.arrayOver (.array (.array .long))).before args s = true := gAO.use X.2.1.2.2.2.1.2.2.2.2.2.2.2.2.2
  obtain ⟨vm₁, cA, d1, d2, hW, hfA, hfC, hfD, X1, st⟩ := multi3 X0 X.1.1 (own := own) (index := index) (ty := .long) X.1.2.2.2.1 (X.1.2.2.2.2 _ hcl) hover2 hover (X.1.2.2.2.2 _ q965) (g := F0 m pc ls (.int (nI L) :: .int (nI M) :: .int (nI N) :: rest)) rfl (by rw [X.1.2.1]; exact hdg) rfl (nI_pos (by omega)) (nI_pos (by omega)) (nI_pos (by omega)) (by rw [c1]; omega) (by rw [c2]; omega) (by rw [c3]; show L * 8 ≤ _; exact hL) (by rw [c3]; omega) rfl rfl (by rw [c1, c2]; exact hcells) (by rw [c1, c2, c3]; exact hslots)
  rw [c1, c2, c3] at X1 st
  have eA : cA = kA K 6 := Option.some.inj (hfA.symm.trans (X.2.1.1.2 6 _ rfl).2)
  have eC : d1 = kA K 5 := Option.some.inj (hfC.symm.trans (X.2.1.1.2 5 _ rfl).2)
  have eD : d2 = kA K 1 := Option.some.inj (hfD.symm.trans (X.2.1.1.2 1 _ rfl).2)
  subst eA
  subst eC
  subst eD
  obtain ⟨f1, f2, f3, f4⟩ := fill3_facts (T.setVm vm₁) (kA K 6) (kA K 5) (kA K 1) N M L (defaultValue .long) N
  have hsz : (T.setVm vm₁).heap.size = T.heap.size := rfl
  rw [hsz] at f1 f2
  have hmid := fill3_mid (T.setVm vm₁) (kA K 6) (kA K 5) (kA K 1) N M L (defaultValue .long) N
  rw [hsz] at hmid
  let G1 : gT := fun b => if b < T.heap.size then G b else if b = T.heap.size then some (t0, refC (kA K 6) N (fun j => T.heap.size + 1 + j * (1 + M))) else
    if (b - T.heap.size - 1) / (1 + M) < N then (if (b - T.heap.size - 1) % (1 + M) = 0 then some (t1 ((b - T.heap.size - 1) / (1 + M)), refC (kA K 5) M (fun x => T.heap.size + 1 + (b - T.heap.size - 1) / (1 + M) * (1 + M) + 1 + x)) else some (t2 ((b - T.heap.size - 1) / (1 + M)) ((b - T.heap.size - 1) % (1 + M) - 1), lngC (kA K 1) L (fun _ => 0))) else none
  have hmany := hG.many (G1 := G1) (H1 := (fill3 (T.setVm vm₁) (kA K 6) (kA K 5) (kA K 1) N M L (defaultValue .long) N).heap) (by rw [f1]; omega) (fun q hq => fill3_old (T.setVm vm₁) _ _ _ _ _ _ _ hq _) (fun a ha => if_pos ha) (fun a t e ha he => by
    rcases Nat.lt_or_ge T.heap.size a with q | q
    · have hn1 : ¬ a < T.heap.size := by omega
      have hn2 : ¬ a = T.heap.size := by omega
      simp only [G1, if_neg hn1, if_neg hn2] at he
      have hdm := Nat.div_add_mod (a - T.heap.size - 1) (1 + M)
      have hmod := Nat.mod_lt (a - T.heap.size - 1) (show 0 < 1 + M by omega)
      rw [Nat.mul_comm] at hdm
      by_cases hle : (a - T.heap.size - 1) / (1 + M) < N
      · rw [if_pos hle] at he
        have hm := hmid _ hle
        by_cases h0 : (a - T.heap.size - 1) % (1 + M) = 0
        · rw [if_pos h0] at he
          cases he
          have h1 := hm.1
          rw [outC_cell] at h1
          rw [show a = T.heap.size + 1 + (a - T.heap.size - 1) / (1 + M) * (1 + M) by omega]
          rw [show T.heap.size + 1 + (a - T.heap.size - 1) / (1 + M) * (1 + M) - T.heap.size - 1 = a - T.heap.size - 1 by omega]
          exact h1
        · rw [if_neg h0] at he
          cases he
          have h1 := hm.2 ((a - T.heap.size - 1) % (1 + M) - 1) (by omega)
          rw [inC_cell, show T.heap.size + 1 + (a - T.heap.size - 1) / (1 + M) * (1 + M) + 1 + ((a - T.heap.size - 1) % (1 + M) - 1) = a by omega] at h1
          exact h1
      · rw [if_neg hle] at he
        cases he
    · have e0 : a = T.heap.size := by omega
      subst e0
      simp only [G1, if_neg (Nat.lt_irrefl _), if_true] at he
      cases he
      show _ = some (vp_cell _ _)
      rw [f2, out_cell]
      rfl)
  obtain ⟨tt, a1, b1⟩ := kk T.heap.size G1 _ hmany.2 hG.2.2 (fun b hb => if_pos hb) (by simp only [G1, if_neg (Nat.lt_irrefl _), if_true]) (fun j hj => by
    have hd1 : (j * (1 + M)) / (1 + M) = j := Nat.mul_div_cancel _ (by omega)
    have hd2 : (j * (1 + M)) % (1 + M) = 0 := Nat.mul_mod_left _ _
    refine ⟨?_, fun b hb => ?_⟩
    · have hn1 : ¬ T.heap.size + 1 + j * (1 + M) < T.heap.size := by omega
      have hn2 : ¬ T.heap.size + 1 + j * (1 + M) = T.heap.size := by omega
      simp only [G1, if_neg hn1, if_neg hn2, show T.heap.size + 1 + j * (1 + M) - T.heap.size - 1 = j * (1 + M) by omega, hd1, hd2]
      rw [if_pos hj, if_pos trivial]
    · have hn1 : ¬ T.heap.size + 1 + j * (1 + M) + 1 + b < T.heap.size := by omega
      have hn2 : ¬ T.heap.size + 1 + j * (1 + M) + 1 + b = T.heap.size := by omega
      have hd3 : ((1 + b) + j * (1 + M)) / (1 + M) = j := by rw [Nat.add_mul_div_right _ _ (by omega), Nat.div_eq_of_lt (by omega), Nat.zero_add]
      have hd4 : ((1 + b) + j * (1 + M)) % (1 + M) = 1 + b := by rw [Nat.add_mul_mod_self_right, Nat.mod_eq_of_lt (by omega)]
      simp only [G1, if_neg hn1, if_neg hn2, show T.heap.size + 1 + j * (1 + M) + 1 + b - T.heap.size - 1 = (1 + b) + j * (1 + M) by omega, hd3, hd4]
      rw [if_pos hj, if_neg (by omega), show 1 + b - 1 = b by omega]) hmany.1 ⟨Nat.le_trans hS.1 (by rw [f1]; omega), fun x h1 h2 => (fill3_old (T.setVm vm₁) _ _ _ _ _ _ _ (Nat.lt_of_lt_of_le h1 hS.1) _).trans (hS.2.1 x h1 h2), hS.2.2⟩ _ rfl X1
  exact ⟨tt, st tt a1, b1⟩
end NA
