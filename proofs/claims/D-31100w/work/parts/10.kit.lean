/-! G-KIT: a ghost heap G says which cell each address of the world holds, with a region number; its rows stand on the kit's base rows -/
set_option maxRecDepth 100000
abbrev gT : Type := Nat → Option (Nat × va_E)
/-- the constants of a run: class ids and slots; array class ids; the least address of the world; the small Integers, their row; the small Longs, their row; the empty Object row; the class object of Object[] -/
abbrev gK : Type := va_G × (Nat → ClassId) × Nat × (Nat → Nat) × Nat × (Nat → Nat) × Nat × Nat × Nat
abbrev kD (K : gK) : va_G := K.1
abbrev kA (K : gK) : Nat → ClassId := K.2.1
abbrev kB (K : gK) : Nat := K.2.2.1
abbrev kI (K : gK) : Nat → Nat := K.2.2.2.1
abbrev kIT (K : gK) : Nat := K.2.2.2.2.1
abbrev kL (K : gK) : Nat → Nat := K.2.2.2.2.2.1
abbrev kLT (K : gK) : Nat := K.2.2.2.2.2.2.1
abbrev kE (K : gK) : Nat := K.2.2.2.2.2.2.2.1
abbrev kM (K : gK) : Nat := K.2.2.2.2.2.2.2.2
abbrev gcl : List vw_C := [(RX1, TX1, 12), (RX2, TX2, 44), (RX3, TX3, 3), (RX4, TX4, 5), (RX5, TX5, 2), (RX6, TX6, 7), (RX7, TX7, 3), (RX8, TX8, 9), (RJ2, TJ2, 3), (RJ21, TJ21, 8), (RJ19, TJ19, 1), (RJ23, TJ23, 4), (RJ9, TJ9, 1), (RJ22, TJ22, 1)]
abbrev gty (K : gK) : List (ClassId × FieldType) := [(kA K 0, .int), (kA K 1, .long), (kA K 2, .boolean), (kA K 3, .object "java/lang/Object"), (kA K 4, .object "java/util/HashMap$Node"), (kA K 5, .array .long), (kA K 6, .array (.array .long))]
/-- which cells may be written: those of the world, and new ones -/
def gA (K : gK) : Nat → Prop := fun q => kB K ≤ q
def gU (G : gT) (a t : Nat) (e : va_E) : gT := fun b => if b = a then some (t, e) else G b
theorem gU_self {G : gT} {a t : Nat} {e : va_E} : gU G a t e a = some (t, e) := if_pos rfl
theorem gU_ne {G : gT} {a t b : Nat} {e : va_E} (h : b ≠ a) : gU G a t e b = G b := if_neg h
/-- the heap holds the ghost heap -/
def gH (K : gK) (G : gT) (H : Heap) : Prop := (∀ (a t : Nat) (e : va_E), G a = some (t, e) → va_at (kD K) gcl (a, e) H) ∧ (∀ a : Nat, a < kB K → G a = none) ∧ kB K ≤ H.size
theorem gH.lt {K : gK} {G : gT} {H : Heap} (h : gH K G H) {a t : Nat} {e : va_E} (ha : G a = some (t, e)) : a < H.size := (h.1 a t e ha).lt
theorem gH.new {K : gK} {G : gT} {H : Heap} (h : gH K G H) : G H.size = none := by
  cases e : G H.size with
  | none => rfl
  | some x => exact absurd (h.lt (t := x.1) (e := x.2) e) (Nat.lt_irrefl _)
theorem gH.ge {K : gK} {G : gT} {H : Heap} (h : gH K G H) {a t : Nat} {e : va_E} (ha : G a = some (t, e)) : gA K a := by
  rcases Nat.lt_or_ge a (kB K) with q | q
  · rw [h.2.1 a q] at ha; cases ha
  · exact q
theorem gH.put {K : gK} {G : gT} {H H1 : Heap} (h : gH K G H) {a t t0 : Nat} {e0 e : va_E} (ha : G a = some (t0, e0)) (he : va_at (kD K) gcl (a, e) H1) (z : H1.size = H.size) (oq : ∀ q : Nat, q ≠ a → H1[q]? = H[q]?) : gH K (gU G a t e) H1 := by
  refine ⟨fun b u x hb => ?_, fun b hb => ?_, by rw [z]; exact h.2.2⟩
  · by_cases hba : b = a
    · subst hba
      rw [gU_self] at hb
      cases hb
      exact he
    · rw [gU_ne hba] at hb
      exact (h.1 b u x hb).kept (oq b hba)
  · have h1 := h.ge ha
    have hne : b ≠ a := fun e => absurd hb (Nat.not_lt.mpr (by rw [e]; exact h1))
    rw [gU_ne hne]
    exact h.2.1 b hb
theorem gH.push {K : gK} {G : gT} {H H1 : Heap} (h : gH K G H) {t : Nat} {e : va_E} (he : va_at (kD K) gcl (H.size, e) H1) (z : H1.size = H.size + 1) (oq : ∀ q : Nat, q < H.size → H1[q]? = H[q]?) : gH K (gU G H.size t e) H1 := by
  refine ⟨fun b u x hb => ?_, fun b hb => ?_, by rw [z]; exact Nat.le_trans h.2.2 (Nat.le_succ _)⟩
  · by_cases hba : b = H.size
    · subst hba
      rw [gU_self] at hb
      cases hb
      exact he
    · rw [gU_ne hba] at hb
      exact (h.1 b u x hb).kept (oq b (h.lt hb))
  · have hne : b ≠ H.size := fun e => absurd hb (Nat.not_lt.mpr (by rw [e]; exact h.2.2))
    rw [gU_ne hne]
    exact h.2.1 b hb
theorem g_one {K : gK} {G : gT} {H : Heap} (h : gH K G H) {a t : Nat} {e : va_E} (ha : G a = some (t, e)) : va_P (kD K) gcl [(a, e)] H := by
  intro k q hk
  match k, hk with
  | 0, hk => cases hk; exact h.1 a t e ha
/-- regions: a cell outside the regions S stays; an object stays an object of its class and region -/
def gF (S : Nat → Prop) (G G1 : gT) : Prop := (∀ (a t : Nat) (e : va_E), G a = some (t, e) → ¬ S t → G1 a = some (t, e)) ∧ ∀ (a t ci : Nat) (fs : List Value), G a = some (t, .inr (ci, fs)) → ∃ fs1 : List Value, G1 a = some (t, .inr (ci, fs1))
theorem gF.rf {S : Nat → Prop} {G : gT} : gF S G G := ⟨fun _ _ _ h _ => h, fun _ _ _ fs h => ⟨fs, h⟩⟩
theorem gF.mono {S S1 : Nat → Prop} {G G1 : gT} (h : gF S G G1) (hs : ∀ t, S t → S1 t) : gF S1 G G1 := ⟨fun a t e ha hn => h.1 a t e ha (fun q => hn (hs t q)), h.2⟩
theorem gF.trans {S : Nat → Prop} {G G1 G2 : gT} (h : gF S G G1) (h1 : gF S G1 G2) : gF S G G2 := by
  refine ⟨fun a t e ha hn => h1.1 a t e (h.1 a t e ha hn) hn, fun a t ci fs ha => ?_⟩
  obtain ⟨fs1, e1⟩ := h.2 a t ci fs ha
  exact h1.2 a t ci fs1 e1
theorem gF.trans2 {S S1 S2 : Nat → Prop} {G G1 G2 : gT} (h : gF S G G1) (h1 : gF S1 G1 G2) (a : ∀ t, S t → S2 t) (b : ∀ t, S1 t → S2 t) : gF S2 G G2 := (h.mono a).trans (h1.mono b)
theorem gF.putO {S : Nat → Prop} {G : gT} {a t ci : Nat} {fs fs1 : List Value} (ha : G a = some (t, .inr (ci, fs))) (hs : S t) : gF S G (gU G a t (.inr (ci, fs1))) := by
  refine ⟨fun b u e hb hn => ?_, fun b u cj gs hb => ?_⟩
  · by_cases hba : b = a
    · subst hba
      rw [ha] at hb
      cases hb
      exact absurd hs hn
    · rw [gU_ne hba]; exact hb
  · by_cases hba : b = a
    · subst hba
      rw [ha] at hb
      cases hb
      exact ⟨fs1, gU_self⟩
    · exact ⟨gs, by rw [gU_ne hba]; exact hb⟩
theorem gF.putA {S : Nat → Prop} {G : gT} {a t : Nat} {x : ClassId × vp_A} {e : va_E} (ha : G a = some (t, .inl x)) (hs : S t) : gF S G (gU G a t e) := by
  refine ⟨fun b u e1 hb hn => ?_, fun b u cj gs hb => ?_⟩
  · by_cases hba : b = a
    · subst hba
      rw [ha] at hb
      cases hb
      exact absurd hs hn
    · rw [gU_ne hba]; exact hb
  · by_cases hba : b = a
    · subst hba
      rw [ha] at hb
      cases hb
    · exact ⟨gs, by rw [gU_ne hba]; exact hb⟩
theorem gF.new {S : Nat → Prop} {G : gT} {a t : Nat} {e : va_E} (ha : G a = none) : gF S G (gU G a t e) := by
  have ne : ∀ (b u : Nat) (x : va_E), G b = some (u, x) → b ≠ a := fun b u x hb h => by rw [h, ha] at hb; cases hb
  exact ⟨fun b u x hb _ => by rw [gU_ne (ne b u x hb)]; exact hb, fun b u cj gs hb => ⟨gs, by rw [gU_ne (ne b u _ hb)]; exact hb⟩⟩
theorem g_ne_t {G : gT} {a b t u : Nat} {e f : va_E} (ha : G a = some (t, e)) (hb : G b = some (u, f)) (h : t ≠ u) : a ≠ b := fun q => by rw [q, hb] at ha; cases ha; exact h rfl
theorem g_ne_n {G : gT} {a b t : Nat} {e : va_E} (ha : G a = some (t, e)) (hb : G b = none) : a ≠ b := fun q => by rw [q, hb] at ha; cases ha
/-- the words that don't ride in the list -/
abbrev gcast : List (String × String) := [("KalmanQuay$Hit", "java/lang/Object"), ("KalmanQuay$State", "java/lang/Object"), ("KalmanQuay$Got", "java/lang/Object"), ("KalmanQuay$Track", "java/lang/Object"), ("java/lang/Integer", "java/lang/Object"), ("java/lang/Long", "java/lang/Object"), ("KalmanQuay$Pair", "java/lang/Object"), ("[I", "java/lang/Cloneable"), ("java/lang/IllegalArgumentException", "java/lang/IllegalArgumentException"), ("java/lang/IllegalStateException", "java/lang/IllegalStateException"), ("java/lang/IndexOutOfBoundsException", "java/lang/IndexOutOfBoundsException"), ("java/util/NoSuchElementException", "java/util/NoSuchElementException")]
abbrev gdecl : List MethodName := [⟨"java/lang/Object", "hashCode", "()I"⟩, ⟨"java/lang/Object", "equals", "(Ljava/lang/Object;)Z"⟩, ⟨"java/lang/Object", "getClass", "()Ljava/lang/Class;"⟩, ⟨"java/lang/IndexOutOfBoundsException", "<init>", "()V"⟩, ⟨"java/lang/IndexOutOfBoundsException", "<init>", "(Ljava/lang/String;)V"⟩, ⟨"java/lang/Throwable", "<init>", "()V"⟩, ⟨"java/lang/Throwable", "<init>", "(Ljava/lang/String;)V"⟩, ⟨"java/lang/Exception", "<init>", "()V"⟩, ⟨"java/lang/Exception", "<init>", "(Ljava/lang/String;)V"⟩, ⟨"java/lang/RuntimeException", "<init>", "()V"⟩, ⟨"java/lang/RuntimeException", "<init>", "(Ljava/lang/String;)V"⟩]
abbrev gncast : List (String × String) := [("java/util/HashMap$Node", "java/util/HashMap$TreeNode"), ("java/lang/IllegalStateException", "java/lang/IllegalArgumentException"), ("java/lang/IllegalArgumentException", "java/lang/IndexOutOfBoundsException"), ("java/lang/IllegalStateException", "java/lang/IndexOutOfBoundsException"), ("java/util/NoSuchElementException", "java/lang/IllegalArgumentException")]
/-- an array class over arrays is loaded -/
def gAO (ty : FieldType) (U : State) : Prop := (Cond.arrayOver ty).before #[] U = true
theorem gAO.moved {ty : FieldType} {u U : State} (hvm : u.vm.Alike U.vm) (h : gAO ty u) : gAO ty U := by
  have h1 : (Cond.arrayOver ty).before #[] (u.setVm U.vm) = true := by
    rw [Cond.arrayOver_setVmC hvm]
    exact h
  exact h1
theorem gAO.use {ty : FieldType} {A : Array Value} {U : State} (h : gAO ty U) : (Cond.arrayOver ty).before A U = true := h
def gNw (U : State) : Prop := (∀ q ∈ gcast, va_Nw (.castable q.1 q.2) U) ∧ (∀ x ∈ gdecl, va_Nw (.declares x) U) ∧ (∀ q ∈ gncast, va_Nc q.1 q.2 U) ∧ va_Nw (.fieldLinkNest "KalmanQuay" 180 "KalmanQuay$Assignment" "best" "[I" "KalmanQuay") U ∧ va_Nw (.methodLinkNest "KalmanQuay" 149 ⟨"KalmanQuay$Got", "<init>", "(IIJ)V"⟩ "KalmanQuay") U ∧ va_Nw (.methodLinkNest "KalmanQuay$State" 11 ⟨"KalmanQuay", "held", "(JII)I"⟩ "KalmanQuay") U ∧ va_AO "java/lang/Object" U ∧ va_AO "java/util/HashMap$Node" U ∧ gAO (.array .long) U ∧ gAO (.array (.array .long)) U
theorem gNw.moved {u U : State} (hW : u.WarmedH U.vm) (h : gNw u) : gNw U := by
  obtain ⟨h1, h2, h3, h4, h5, h6, h7, h8, h9, h10⟩ := h
  exact ⟨fun q hq => va_Nw.warmC hW (h1 q hq), fun x hx => va_Nw.warmD hW (h2 x hx), fun q hq => va_Nc.moved hW.alike (h3 q hq), va_Nw.warmF hW h4, va_Nw.warmM hW h5, va_Nw.warmM hW h6, va_AO.moved hW.alike h7, va_AO.moved hW.alike h8, gAO.moved hW.alike h9, gAO.moved hW.alike h10⟩
def lgC (k : Nat) : Int64 := Int64.ofNat k - 128
/-- the small Integers and Longs, their rows -/
def gBx (K : gK) (U : State) (H : Heap) : Prop := vb_C (kI K) (gA K) U H ∧ va_Z "java/lang/Integer$IntegerCache" "cache" "[Ljava/lang/Integer;" (.ref (kIT K)) (gA K) U H ∧ va_T (.object "java/lang/Integer") (kIT K) 256 (fun j => .ref (kI K j)) (gA K) U H ∧ va_Z "java/lang/Integer$IntegerCache" "high" "I" (.int 127) (gA K) U H ∧
  (∀ k : Nat, k < 256 → va_O "java/lang/Long" (kL K k) (gA K) U H) ∧ va_Ef 256 "java/lang/Long" "value" "J" (fun k => .long (lgC k)) (kL K) (gA K) U H ∧ va_Z "java/lang/Long$LongCache" "cache" "[Ljava/lang/Long;" (.ref (kLT K)) (gA K) U H ∧ va_T (.object "java/lang/Long") (kLT K) 256 (fun j => .ref (kL K j)) (gA K) U H
theorem gBx.moved {K : gK} {u U : State} {H : Heap} (hvm : u.vm.Alike U.vm) (h : gBx K u H) : gBx K U H := by
  obtain ⟨h1, h2, h3, h4, h5, h6, h7, h8⟩ := h
  exact ⟨vb_C.moved hvm h1, va_Z.moved hvm h2, va_T.moved hvm h3, va_Z.moved hvm h4, fun k hk => va_O.moved hvm (h5 k hk), va_Ef.moved hvm h6, va_Z.moved hvm h7, va_T.moved hvm h8⟩
theorem gBx.kept {K : gK} {U : State} {H H1 : Heap} (h : gBx K U H) (hq : ∀ a : Nat, a < H.size → ¬ gA K a → H1[a]? = H[a]?) : gBx K U H1 := by
  obtain ⟨h1, h2, h3, h4, h5, h6, h7, h8⟩ := h
  exact ⟨h1.kept hq, h2.kept hq, h3.kept hq, h4.kept hq, fun k hk => (h5 k hk).kept hq, h6.kept hq, h7.kept hq, h8.kept hq⟩
/-- what else lies there from the start: the empty Object row, the two statics of a throw -/
def gEx (K : gK) (U : State) (H : Heap) : Prop := va_Z "java/util/ArrayList" "DEFAULTCAPACITY_EMPTY_ELEMENTDATA" "[Ljava/lang/Object;" (.ref (kE K)) (gA K) U H ∧ va_T (.object "java/lang/Object") (kE K) 0 (fun _ => .null) (gA K) U H ∧ vx_Zq Bundle.tN "UNASSIGNED_STACK" Bundle.steD (gA K) U H ∧ vx_Zq Bundle.tN "SUPPRESSED_SENTINEL" Bundle.listD (gA K) U H ∧ ∃ v : Value, (v = .null ∨ ∃ a, v = .ref a) ∧ va_Z "java/util/HashSet" "PRESENT" "Ljava/lang/Object;" v (gA K) U H
theorem gEx.moved {K : gK} {u U : State} {H : Heap} (hvm : u.vm.Alike U.vm) (h : gEx K u H) : gEx K U H := by
  obtain ⟨h1, h2, h3, h4, v, hv, h5⟩ := h
  exact ⟨va_Z.moved hvm h1, va_T.moved hvm h2, vx_Zq.moved hvm h3, vx_Zq.moved hvm h4, v, hv, va_Z.moved hvm h5⟩
theorem gEx.kept {K : gK} {U : State} {H H1 : Heap} (h : gEx K U H) (hq : ∀ a : Nat, a < H.size → ¬ gA K a → H1[a]? = H[a]?) : gEx K U H1 := by
  obtain ⟨h1, h2, h3, h4, v, hv, h5⟩ := h
  exact ⟨h1.kept hq, h2.kept hq, h3.kept hq, h4.kept hq, v, hv, h5.kept hq⟩
/-- what stays all through a run -/
def gO (K : gK) (U : State) (H : Heap) : Prop := va_K (kD K) gcl (gty K) U ∧ gBx K U H ∧ gEx K U H ∧ gNw U ∧ va_Mi "[Ljava/lang/Object;" (kM K) U ∧ kE K < kB K ∧ U.vm.findClass "[I" = some (kA K 0)
theorem gO.moved {K : gK} {u U : State} {H : Heap} (hW : u.WarmedH U.vm) (h : gO K u H) : gO K U H := by
  obtain ⟨h1, h2, h3, h4, h5, h6, h7⟩ := h
  exact ⟨va_K.moved hW.alike h1, h2.moved hW.alike, h3.moved hW.alike, h4.moved hW, va_Mi.moved hW.alike h5, h6, by rw [hW.alike.findClass]; exact h7⟩
theorem gO.kept {K : gK} {U : State} {H H1 : Heap} (h : gO K U H) (hq : ∀ a : Nat, a < H.size → ¬ gA K a → H1[a]? = H[a]?) : gO K U H1 := ⟨h.1, h.2.1.kept hq, h.2.2.1.kept hq, h.2.2.2⟩
/-- the world at a state -/
def gW (K : gK) (G : gT) (U : State) : Prop := gH K G U.heap ∧ gO K U U.heap
theorem gW.blind {K : gK} {G : gT} {av : List Value} : FrameBlind (va_Pc av (gW K G)) := by
  intro a U g mk h
  obtain ⟨h1, h2, h3⟩ := h
  exact ⟨h1, h2, gO.moved (u := U) (U := U.calling g mk a) (State.WarmedH.refl U) h3⟩
def gQ (K : gK) (post : Option Value → gT → Prop) : Array Value → State → Outcome → State → Prop := fun _ st oc t => (∃ (v : Option Value) (G1 : gT), oc = .returned v ∧ post v G1 ∧ gH K G1 t.heap) ∧ va_F (gA K) st t
/-- what a method's exception leaves: the world as it was -/
def gX (K : gK) (G : gT) (px : String → Prop) : String → State → State → Prop := fun E st t => px E ∧ gH K G t.heap ∧ va_F (gA K) st t
/-- a contract: any world that holds G; the answer and the new G hold post -/
def gMet (l : Launch) (K : gK) (y : MethodName) (cc : ByteArray) (nL : Nat) (ret : Option FieldType) (f o mc ms : Nat) (av : List Value) (G : gT) (post : Option Value → gT → Prop) : Prop :=
  Met l y (ws_ y cc nL ret) { frames := f, cells := mc, slots := ms, locals := o } (va_Pc av (gW K G)) (gQ K post) mc ms (gA K)
/-- .. of a method that may throw: then px holds of the exception's class, and the world is as it was -/
def gMetX (l : Launch) (K : gK) (y : MethodName) (cc : ByteArray) (nL : Nat) (ret : Option FieldType) (f o mc ms : Nat) (av : List Value) (G : gT) (post : Option Value → gT → Prop) (px : String → Prop) : Prop :=
  vx_Met l y (ws_ y cc nL ret) { frames := f, cells := mc, slots := ms, locals := o } (va_Pc av (gW K G)) (gQ K post) (gX K G px) mc ms (gA K)
/-- .. of a method with handlers, that returns -/
def gMetW (l : Launch) (K : gK) (y : MethodName) (cc : ByteArray) (nL : Nat) (ret : Option FieldType) (hh : List (Nat × Nat × Nat × Nat)) (f o mc ms : Nat) (av : List Value) (G : gT) (post : Option Value → gT → Prop) : Prop :=
  Met l y (wsW_ y cc nL ret hh) { frames := f, cells := mc, slots := ms, locals := o } (va_Pc av (gW K G)) (gQ K post) mc ms (gA K)
/-- what holds all through a body -/
def gC (K : gK) (p : Program) (s : State) (m : MethodId) (args : Array Value) (meth : Method) (c : Code) (cc : ByteArray) (nL : Nat) (own : String) : Prop := CallFix p m c cc nL s args lw_all own ∧ gO K s s.heap ∧ kB K ≤ s.heap.size ∧ meth.locks = false
theorem gA_new {K : gK} {s : State} (h : kB K ≤ s.heap.size) : ∀ q : Nat, s.heap.size ≤ q → gA K q := fun _ hq => Nat.le_trans h hq
section GB
variable {l : Launch} {K : gK} {y : MethodName} {cc : ByteArray} {nL : Nat} {ret : Option FieldType} {f o mc ms : Nat} {av : List Value} {G : gT} {post : Option Value → gT → Prop} {px : String → Prop}
theorem gMet.of (hy : plainName y.cls = true) (hav : (lg_sl av).length ≤ nL) (body : ∀ (p : Program) (e : Env) (s : State) (m : MethodId) (below : List Frame) (meth : Method) (c : Code) (ls : Array Slot), p.tables.exec = Jvm.exec → c.code = cc → gC K p s m av.toArray meth c cc nL y.cls → meth.sig.returnType = ret → meth.name = y.name → gH K G s.heap → va_S (gA K) s.heap s.heap [] → lv_has ls nL (lv_args 0 av) →
    W p l e { frames := f, cells := mc, slots := ms, locals := o } s m av.toArray below meth c s.heap [] 0 0 (MQ below (gQ K post) av.toArray s mc ms (gA K)) (F0 m 0 ls [])) : gMet l K y cc nL ret f o mc ms av G post := by
  refine Met.ofW (cc := cc) (maxL := nL) (ret := ret) hy rfl ?_
  intro p e s m args below meth c s₁ B hml hv
  obtain ⟨rfl, hG, hO⟩ := hv
  have hts := atoms_spec (ws := ws_ y cc nL ret) B.pre
  have hts : ∀ w ∈ lw_all, w.before _ s = true := fun w h => hts w (List.mem_cons_of_mem _ h)
  have hown : s.vm.findClass y.cls = some m.cls := findClass_of_methodNamed B.named
  have hin : meth.name = y.name := (name_of_methodNamed B.named B.method).1
  rw [lg_entry_eq]
  exact body p e s m below meth c _ B.exec B.bytes ⟨⟨B.exec, B.bytes, hml, hown, hts⟩, hO, hG.2.2, B.notSynchronized⟩ B.returns hin hG va_S.rf (lv_entry av hav)
theorem gMetX.of (hy : plainName y.cls = true) (hav : (lg_sl av).length ≤ nL) (body : ∀ (p : Program) (e : Env) (s : State) (m : MethodId) (below : List Frame) (meth : Method) (c : Code) (ls : Array Slot), p.tables.exec = Jvm.exec → c.code = cc → gC K p s m av.toArray meth c cc nL y.cls → meth.sig.returnType = ret → (∀ x ∈ c.exceptionTable.toList, False) → gH K G s.heap → va_S (gA K) s.heap s.heap [] → lv_has ls nL (lv_args 0 av) →
    W p l e { frames := f, cells := mc, slots := ms, locals := o } s m av.toArray below meth c s.heap [] 0 0 (vx_MQ below (gQ K post) (gX K G px) av.toArray s mc ms (gA K)) (F0 m 0 ls [])) : gMetX l K y cc nL ret f o mc ms av G post px := by
  refine vx_ofW (cc := cc) (maxL := nL) (ret := ret) hy rfl ?_
  intro p e s m args below meth c s₁ B hml htab hv
  obtain ⟨rfl, hG, hO⟩ := hv
  have hts := atoms_spec (ws := ws_ y cc nL ret) B.pre
  have hts : ∀ w ∈ lw_all, w.before _ s = true := fun w h => hts w (List.mem_cons_of_mem _ h)
  have hown : s.vm.findClass y.cls = some m.cls := findClass_of_methodNamed B.named
  rw [lg_entry_eq]
  exact body p e s m below meth c _ B.exec B.bytes ⟨⟨B.exec, B.bytes, hml, hown, hts⟩, hO, hG.2.2, B.notSynchronized⟩ B.returns htab hG va_S.rf (lv_entry av hav)
end GB
section GR
variable {p : Program} {l : Launch} {e : Env} {R : Room} {s : State} {m : MethodId} {args : Array Value} {below : List Frame} {meth : Method} {c : Code} {H : Heap} {locs : List Loc} {cells slots : Nat} {Q : State → Prop}
variable {cc : ByteArray} {pc : Nat} {ls : Array Slot} {rest : List Value} {K : gK} {own : String} {nL : Nat} {G : gT}
theorem gS.put {a k : Nat} {H1 : Heap} (hS : va_S (gA K) s.heap H locs) (hG : gH K G H) {t : Nat} {x : va_E} (h : G a = some (t, x)) (z : H1.size = H.size) (oq : ∀ q : Nat, q ≠ a → H1[q]? = H[q]?) : va_S (gA K) s.heap H1 (locs ++ [⟨a, k⟩]) := hS.put z oq (hG.ge h)
theorem gS.push {H1 : Heap} (hS : va_S (gA K) s.heap H locs) (z : H1.size = H.size + 1) (oq : ∀ q : Nat, q < H.size → H1[q]? = H[q]?) : va_S (gA K) s.heap H1 locs := ⟨Nat.le_trans hS.1 (by omega), fun x h1 h2 => (oq x (Nat.lt_of_lt_of_le h1 hS.1)).trans (hS.2.1 x h1 h2), hS.2.2⟩
theorem g_get (X : gC K p s m args meth c cc nL own) (hG : gH K G H) {a t ci : Nat} {fs : List Value} (h : G a = some (t, .inr (ci, fs))) {C ref : String} {T : u_T} {N index : Nat} (hc : gcl[ci]? = some (C, T, N)) (hin : ∀ w ∈ u_ws C T N, w ∈ lw_all) (k : Nat) (hk : k < N) (hl : Cond.fieldLink own index ref (T k).2.1 (T k).2.2.1 ∈ lw_all) (hsame : ∀ x, s.fieldFound? (T k).1 (T k).2.1 (T k).2.2.1 = some x → s.fieldFound? ref (T k).2.1 (T k).2.2.1 = some x) {v : Value} (hv : fs[k]? = some v) (hdg : decode cc pc = .ok (.getfield index, 3))
    (kk : W p l e R s m args below meth c H locs cells slots Q (F0 m (pc + 3) ls (v :: rest))) : W p l e R s m args below meth c H locs cells slots Q (F0 m pc ls (.ref a :: rest)) :=
  va_get X.1.1 X.1.2.1 X.1.2.2.2.2 hin X.1.2.2.2.1 X.2.1.1 (g_one hG h) 0 rfl hc k hk (X.1.2.2.2.2 _ hl) hsame hv hdg kk
theorem g_put (X : gC K p s m args meth c cc nL own) (hG : gH K G H) (hS0 : va_S (gA K) s.heap H locs) {a t ci : Nat} {fs : List Value} (h : G a = some (t, .inr (ci, fs))) {C ref : String} {T : u_T} {N index : Nat} (hc : gcl[ci]? = some (C, T, N)) (hin : ∀ w ∈ u_ws C T N, w ∈ lw_all) (ty0 : Nat → FieldType) (hty : ∀ k, k < N → parseFieldDescriptor (T k).2.2.1 = some (ty0 k)) (hnm : ∀ a, a < N → ∀ b, b < N → a ≠ b → (T a).2.1 ≠ (T b).2.1) (k : Nat) (hk : k < N) (hl : Cond.fieldLink own index ref (T k).2.1 (T k).2.2.1 ∈ lw_all) (hsame : ∀ x, s.fieldFound? (T k).1 (T k).2.1 (T k).2.2.1 = some x → s.fieldFound? ref (T k).2.1 (T k).2.2.1 = some x) (hfin : (T k).2.2.2 = false) {v : Value} (hn : narrow (ty0 k) v = v) (hfit : fits (ty0 k) v = true) {fs1 : List Value} (hlen : k < fs.length) (hfs : fs.set k v = fs1) (hdg : decode cc pc = .ok (.putfield index, 3))
    (kk : ∀ (H1 : Heap) (locs1 : List Loc), gH K (gU G a t (.inr (ci, fs1))) H1 → va_S (gA K) s.heap H1 locs1 → W p l e R s m args below meth c H1 locs1 cells slots Q (F0 m (pc + 3) ls rest)) : W p l e R s m args below meth c H locs cells slots Q (F0 m pc ls (v :: .ref a :: rest)) := by
  subst hfs
  have hK := X.2.1.1
  have hown := X.1.2.2.2.1
  have hts := X.1.2.2.2.2
  have hap := va_apart (own := own) hts hin ty0 hty hnm hK hc
  obtain ⟨r, h1, cell, q1, q2, q3, q4⟩ := hG.1 a t _ h
  have hr : r = (C, T, N) := Option.some.inj (h1.symm.trans hc)
  subst hr
  obtain ⟨hSl, hfc, kC, hkC, hkind⟩ := hK.1 ci _ hc
  obtain ⟨cf, kf, fi, f, hi, hsl⟩ := hSl k hk
  have hlay := hts _ (hin _ (u_in_lay hk))
  unfold u_lay at hlay
  rw [if_neg (by rw [hfin]; decide)] at hlay
  have hst := (u_facts hfc hkC (u_lays hts hin hk) hi).1
  have h6 := u_store hfc hkC hkind hlay hi (hty k hk) hn hfit
  refine W.putK X.1.1 X.1.2.1 (f := f) ⟨hown, hts _ hl, ⟨_, _, _, hsame _ hi⟩, hst⟩ (by rw [q2]; exact h6) q1 q3 (by rw [hsl]; exact k2_hasslot (q4 k hk)) rfl rfl hdg fun H1 e1 e2 e3 => ?_
  rw [hsl] at e1 ⊢
  exact kk H1 _ (hG.put h ⟨_, hc, t_OB.to (V := updV (vp_V fs) k v) ⟨_, e1, q2, q3, t_set q4 hap hk v⟩ (fun j _ => vp_updV_set hlen v j)⟩ e2 e3) (gS.put hS0 hG h e2 e3)
theorem g_putF (X : gC K p s m args meth c cc nL own) (hG : gH K G H) (hS0 : va_S (gA K) s.heap H locs) (hin2 : meth.name = "<init>") {a t ci : Nat} {fs : List Value} (h : G a = some (t, .inr (ci, fs))) {C ref : String} {T : u_T} {N index : Nat} (hc : gcl[ci]? = some (C, T, N)) (hin : ∀ w ∈ u_ws C T N, w ∈ lw_all) (ty0 : Nat → FieldType) (hty : ∀ k, k < N → parseFieldDescriptor (T k).2.2.1 = some (ty0 k)) (hnm : ∀ a, a < N → ∀ b, b < N → a ≠ b → (T a).2.1 ≠ (T b).2.1) (k : Nat) (hk : k < N) (hl : Cond.fieldLink own index ref (T k).2.1 (T k).2.2.1 ∈ lw_all) (hsame : ∀ x, s.fieldFound? (T k).1 (T k).2.1 (T k).2.2.1 = some x → s.fieldFound? ref (T k).2.1 (T k).2.2.1 = some x) (hfin : (T k).2.2.2 = true) (hdecl : (T k).1 = own) {v : Value} (hn : narrow (ty0 k) v = v) (hfit : fits (ty0 k) v = true) {fs1 : List Value} (hlen : k < fs.length) (hfs : fs.set k v = fs1) (hdg : decode cc pc = .ok (.putfield index, 3))
    (kk : ∀ (H1 : Heap) (locs1 : List Loc), gH K (gU G a t (.inr (ci, fs1))) H1 → va_S (gA K) s.heap H1 locs1 → W p l e R s m args below meth c H1 locs1 cells slots Q (F0 m (pc + 3) ls rest)) : W p l e R s m args below meth c H locs cells slots Q (F0 m pc ls (v :: .ref a :: rest)) := by
  subst hfs
  have hK := X.2.1.1
  have hown := X.1.2.2.2.1
  have hts := X.1.2.2.2.2
  have hap := va_apart (own := own) hts hin ty0 hty hnm hK hc
  obtain ⟨r, h1, cell, q1, q2, q3, q4⟩ := hG.1 a t _ h
  have hr : r = (C, T, N) := Option.some.inj (h1.symm.trans hc)
  subst hr
  obtain ⟨hSl, hfc, kC, hkC, hkind⟩ := hK.1 ci _ hc
  obtain ⟨cf, kf, fi, f, hi, hsl⟩ := hSl k hk
  have hlay := hts _ (hin _ (u_in_lay hk))
  unfold u_lay at hlay
  rw [if_pos hfin] at hlay
  have hst := (u_facts hfc hkC (u_lays hts hin hk) hi).1
  have hcf : m.cls = cf := by
    obtain ⟨_, _, c', _, _, _, -, -, hf', -, -, -, hown2, -⟩ := Cond.laysFinal_spec hlay
    have e1 : c' = cf := by have := hi.symm.trans hf'; simp at this; exact this.1.symm
    rw [hdecl] at hown2
    rw [← e1]; exact Option.some.inj (hown.symm.trans hown2)
  have h6 := u_fits hfc hkC hkind (Or.inr hlay) hi (hty k hk) hn hfit
  refine W.putFinK X.1.1 X.1.2.1 hown (hts _ hl) (hsame _ hi) hst hcf hin2 (by rw [q2]; exact h6) q1 q3 (by rw [hsl]; exact k2_hasslot (q4 k hk)) rfl rfl hdg fun H1 e1 e2 e3 => ?_
  rw [hsl] at e1 ⊢
  exact kk H1 _ (hG.put h ⟨_, hc, t_OB.to (V := updV (vp_V fs) k v) ⟨_, e1, q2, q3, t_set q4 hap hk v⟩ (fun j _ => vp_updV_set hlen v j)⟩ e2 e3) (gS.put hS0 hG h e2 e3)
theorem g_new (X : gC K p s m args meth c cc nL own) (hG : gH K G H) (hS : va_S (gA K) s.heap H locs) {C : String} {T : u_T} {N ci index : Nat} (hc : gcl[ci]? = some (C, T, N)) (hin : ∀ w ∈ u_ws C T N, w ∈ lw_all) (ty : Nat → FieldType) (hty : ∀ k, k < N → parseFieldDescriptor (T k).2.2.1 = some (ty k)) (hcl : Cond.classLink own index C ∈ lw_all) (hi : Cond.instantiable C N ∈ lw_all) (hini : Cond.initialized C ∈ lw_all) {fs : List Value} (hfs : ∀ j, j < N → defaultValue (ty j) = vp_V fs j) (hcells : cells + 1 ≤ R.cells) (hslots : slots + N ≤ R.slots) (hdg : decode cc pc = .ok (.new index, 3)) (t : Nat)
    (kk : ∀ (q : Nat) (H1 : Heap), G q = none → gA K q → gH K (gU G q t (.inr (ci, fs))) H1 → va_S (gA K) s.heap H1 locs → W p l e R s m args below meth c H1 locs (cells + 1) (slots + N) Q (F0 m (pc + 3) ls (.ref q :: rest))) : W p l e R s m args below meth c H locs cells slots Q (F0 m pc ls rest) := by
  have hts := X.1.2.2.2.2
  have hKn := X.2.1.1.1 ci _ hc
  refine W.newcK X.1.1 X.1.2.1 X.1.2.2.2.1 (hts _ hcl) (hts _ hi) (hts _ hini) rfl hdg hcells hslots hKn.2.1 rfl fun H1 kC hkC e1 z1 o1 => ?_
  exact kk H.size H1 hG.new hG.2.2 (hG.push ⟨_, hc, (u_born ty hts hin hKn hkC e1 hty).to hfs⟩ z1 o1) (gS.push hS z1 o1)
/-! arrays, by the number of the place -/
theorem g_vin {i : Int32} {j n : Nat} (hi : i = nI j) (hj : j < n) (hb : j < 2147483648) : vp_in i n := by
  subst hi
  intro q
  rcases q with q | q
  · exact nI_pos hb q
  · rw [nI_clamp hb] at q; omega
theorem g_at {i : Int32} {j : Nat} (hi : i = nI j) (hb : j < 2147483648) : i.toNatClampNeg = j := by rw [hi]; exact nI_clamp hb
theorem g_iald (X : gC K p s m args meth c cc nL own) (hG : gH K G H) {a t n : Nat} {f : Nat → Int32} (h : G a = some (t, .inl (kA K 0, n, .inl f))) {i : Int32} {j : Nat} (hi : i = nI j) (hj : j < n) (hb : j < 2147483648) (hdg : decode cc pc = .ok (.iaload, 1))
    (kk : W p l e R s m args below meth c H locs cells slots Q (F0 m (pc + 1) ls (.int (f j) :: rest))) : W p l e R s m args below meth c H locs cells slots Q (F0 m pc ls (.int i :: .ref a :: rest)) :=
  va_iald X.1.1 X.1.2.1 X.2.1.1 (g_one hG h) 0 0 rfl rfl (g_vin hi hj hb) hdg (by rw [g_at hi hb]; exact kk)
theorem g_lald (X : gC K p s m args meth c cc nL own) (hG : gH K G H) {a t n : Nat} {f : Nat → Int64} (h : G a = some (t, .inl (kA K 1, n, .inr (.inl f)))) {i : Int32} {j : Nat} (hi : i = nI j) (hj : j < n) (hb : j < 2147483648) (hdg : decode cc pc = .ok (.laload, 1))
    (kk : W p l e R s m args below meth c H locs cells slots Q (F0 m (pc + 1) ls (.long (f j) :: rest))) : W p l e R s m args below meth c H locs cells slots Q (F0 m pc ls (.int i :: .ref a :: rest)) :=
  va_lald X.1.1 X.1.2.1 X.2.1.1 (g_one hG h) 0 1 rfl rfl (g_vin hi hj hb) hdg (by rw [g_at hi hb]; exact kk)
theorem g_zald (X : gC K p s m args meth c cc nL own) (hG : gH K G H) {a t n : Nat} {f : Nat → Int32} (h : G a = some (t, .inl (kA K 2, n, .inl f))) {i : Int32} {j : Nat} (hi : i = nI j) (hj : j < n) (hb : j < 2147483648) (hdg : decode cc pc = .ok (.baload, 1))
    (kk : W p l e R s m args below meth c H locs cells slots Q (F0 m (pc + 1) ls (.int (f j) :: rest))) : W p l e R s m args below meth c H locs cells slots Q (F0 m pc ls (.int i :: .ref a :: rest)) :=
  va_zald X.1.1 X.1.2.1 X.2.1.1 (g_one hG h) 0 2 rfl rfl (g_vin hi hj hb) hdg (by rw [g_at hi hb]; exact kk)
theorem g_aaldV (X : gC K p s m args meth c cc nL own) (hG : gH K G H) {a t n k : Nat} {cA : ClassId} {ty : FieldType} (hk : (gty K)[k]? = some (cA, ty)) (hr : ty.isReference = true) {f : Nat → Option Nat} (h : G a = some (t, .inl (cA, n, .inr (.inr (.inr (.inr f)))))) {i : Int32} {j : Nat} (hi : i = nI j) (hj : j < n) (hb : j < 2147483648) (hdg : decode cc pc = .ok (.aaload, 1))
    (kk : W p l e R s m args below meth c H locs cells slots Q (F0 m (pc + 1) ls (va_rf (f j) :: rest))) : W p l e R s m args below meth c H locs cells slots Q (F0 m pc ls (.int i :: .ref a :: rest)) := by
  have hin := g_vin hi hj hb
  have hlt : i.toNatClampNeg < n := by rw [g_at hi hb]; exact hj
  exact W.aald (v := va_rf (f j)) (ty := ty) X.1.1 X.1.2.1 (hG.1 a t _ h) ((X.2.1.1.2 k _ hk).1 n (fun j => va_rf (f j))) hr (fun q => by cases q) (by show ¬ (i < 0 ∨ (arrV _ _ _).slots.size ≤ _); rw [arrV_size]; exact hin) (by show (arrV _ _ _).slots[_]? = _; rw [arrV_read _ _ hlt, g_at hi hb]) rfl rfl hdg kk
/-- .. a place that holds an address -/
theorem g_aald (X : gC K p s m args meth c cc nL own) (hG : gH K G H) {a t n : Nat} (k : Nat) {cA : ClassId} {ty : FieldType} (hk : (gty K)[k]? = some (cA, ty)) (hr : ty.isReference = true) {f : Nat → Option Nat} (h : G a = some (t, .inl (cA, n, .inr (.inr (.inr (.inr f)))))) {i : Int32} {j b : Nat} (hi : i = nI j) (hj : j < n) (hb : j < 2147483648) (hf : f j = some b) (hdg : decode cc pc = .ok (.aaload, 1))
    (kk : W p l e R s m args below meth c H locs cells slots Q (F0 m (pc + 1) ls (.ref b :: rest))) : W p l e R s m args below meth c H locs cells slots Q (F0 m pc ls (.int i :: .ref a :: rest)) :=
  g_aaldV X hG hk hr h hi hj hb hdg (by rw [hf]; exact kk)
theorem g_aaldN (X : gC K p s m args meth c cc nL own) (hG : gH K G H) {a t n : Nat} (k : Nat) {cA : ClassId} {ty : FieldType} (hk : (gty K)[k]? = some (cA, ty)) (hr : ty.isReference = true) {f : Nat → Option Nat} (h : G a = some (t, .inl (cA, n, .inr (.inr (.inr (.inr f)))))) {i : Int32} {j : Nat} (hi : i = nI j) (hj : j < n) (hb : j < 2147483648) (hf : f j = none) (hdg : decode cc pc = .ok (.aaload, 1))
    (kk : W p l e R s m args below meth c H locs cells slots Q (F0 m (pc + 1) ls (.null :: rest))) : W p l e R s m args below meth c H locs cells slots Q (F0 m pc ls (.int i :: .ref a :: rest)) :=
  g_aaldV X hG hk hr h hi hj hb hdg (by rw [hf]; exact kk)
theorem g_iast (X : gC K p s m args meth c cc nL own) (hG : gH K G H) (hS : va_S (gA K) s.heap H locs) {a t n : Nat} {f : Nat → Int32} (h : G a = some (t, .inl (kA K 0, n, .inl f))) {i x : Int32} {j : Nat} (hi : i = nI j) (hj : j < n) (hb : j < 2147483648) (hdg : decode cc pc = .ok (.iastore, 1))
    (kk : ∀ (H1 : Heap) (locs1 : List Loc), gH K (gU G a t (.inl (kA K 0, n, .inl (upd f j x)))) H1 → va_S (gA K) s.heap H1 locs1 → W p l e R s m args below meth c H1 locs1 cells slots Q (F0 m (pc + 1) ls rest)) : W p l e R s m args below meth c H locs cells slots Q (F0 m pc ls (.int x :: .int i :: .ref a :: rest)) := by
  have hin := g_vin hi hj hb
  refine W.iast X.1.1 X.1.2.1 (hG.1 a t _ h) ((X.2.1.1.2 0 _ rfl).1 n (fun j => .int (f j))) (fun q => by cases q) (by show ¬ (i < 0 ∨ (arrV _ _ _).slots.size ≤ _); rw [arrV_size]; exact hin) rfl rfl hdg fun H1 e z oq => ?_
  refine kk H1 _ (hG.put h ?_ z oq) (gS.put hS hG h z oq)
  show H1[a]? = some (vp_cell _ _)
  rw [e, g_at hi hb]
  rw [vp_cell_i, vp_cell_i, arrV_store]
  congr 2
  funext q
  by_cases hq : q = j
  · subst hq
    simp [updV, upd]
  · simp [updV, upd, hq]
theorem g_zast (X : gC K p s m args meth c cc nL own) (hG : gH K G H) (hS : va_S (gA K) s.heap H locs) {a t n : Nat} {f : Nat → Int32} (h : G a = some (t, .inl (kA K 2, n, .inl f))) {i x : Int32} {j : Nat} (hi : i = nI j) (hj : j < n) (hb : j < 2147483648) (hx : vp_nar .boolean x = x) (hdg : decode cc pc = .ok (.bastore, 1))
    (kk : ∀ (H1 : Heap) (locs1 : List Loc), gH K (gU G a t (.inl (kA K 2, n, .inl (upd f j x)))) H1 → va_S (gA K) s.heap H1 locs1 → W p l e R s m args below meth c H1 locs1 cells slots Q (F0 m (pc + 1) ls rest)) : W p l e R s m args below meth c H locs cells slots Q (F0 m pc ls (.int x :: .int i :: .ref a :: rest)) := by
  have hin := g_vin hi hj hb
  refine W.zast X.1.1 X.1.2.1 (hG.1 a t _ h) ((X.2.1.1.2 2 _ rfl).1 n (fun j => .int (f j))) (fun q => by cases q) (by show ¬ (i < 0 ∨ (arrV _ _ _).slots.size ≤ _); rw [arrV_size]; exact hin) rfl rfl hdg fun H1 e z oq => ?_
  refine kk H1 _ (hG.put h ?_ z oq) (gS.put hS hG h z oq)
  show H1[a]? = some (vp_cell _ _)
  rw [e, g_at hi hb]
  rw [vp_cell_i, vp_cell_i, arrV_store]
  congr 2
  funext q
  have hx2 : narrow .boolean (.int x) = .int x := by
    have h9 : narrow .boolean (.int x) = .int (vp_nar .boolean x) := rfl
    rw [h9, hx]
  by_cases hq : q = j
  · subst hq
    simp [updV, upd, hx2]
  · simp [updV, upd, hq]
theorem g_last (X : gC K p s m args meth c cc nL own) (hG : gH K G H) (hS : va_S (gA K) s.heap H locs) {a t n : Nat} {f : Nat → Int64} (h : G a = some (t, .inl (kA K 1, n, .inr (.inl f)))) {i : Int32} {x : Int64} {j : Nat} (hi : i = nI j) (hj : j < n) (hb : j < 2147483648) (hdg : decode cc pc = .ok (.lastore, 1))
    (kk : ∀ (H1 : Heap) (locs1 : List Loc), gH K (gU G a t (.inl (kA K 1, n, .inr (.inl (vp_updL f j x))))) H1 → va_S (gA K) s.heap H1 locs1 → W p l e R s m args below meth c H1 locs1 cells slots Q (F0 m (pc + 1) ls rest)) : W p l e R s m args below meth c H locs cells slots Q (F0 m pc ls (.long x :: .int i :: .ref a :: rest)) := by
  have hin := g_vin hi hj hb
  refine W.last X.1.1 X.1.2.1 (hG.1 a t _ h) ((X.2.1.1.2 1 _ rfl).1 n (fun j => .long (f j))) (fun q => by cases q) (by show ¬ (i < 0 ∨ (arrV _ _ _).slots.size ≤ _); rw [arrV_size]; exact hin) rfl rfl hdg fun H1 e z oq => ?_
  refine kk H1 _ (hG.put h ?_ z oq) (gS.put hS hG h z oq)
  show H1[a]? = some (vp_cell _ _)
  rw [e, g_at hi hb]
  rw [vp_cell_l, vp_cell_l, arrV_store]
  congr 2
  funext q
  by_cases hq : q = j
  · subst hq
    simp [updV, vp_updL]
  · simp [updV, vp_updL, hq]
theorem g_alen (X : gC K p s m args meth c cc nL own) (hG : gH K G H) {a t : Nat} (k : Nat) {cA : ClassId} {ty : FieldType} (hk : (gty K)[k]? = some (cA, ty)) {x : vp_A} (h : G a = some (t, .inl (cA, x))) {v : Int32} (hv : nI x.1 = v) (hdg : decode cc pc = .ok (.arraylength, 1))
    (kk : W p l e R s m args below meth c H locs cells slots Q (F0 m (pc + 1) ls (.int v :: rest))) : W p l e R s m args below meth c H locs cells slots Q (F0 m pc ls (.ref a :: rest)) :=
  va_alen X.1.1 X.1.2.1 X.2.1.1 (g_one hG h) 0 k rfl hk hv hdg kk
end GR
