/-! hash maps: their picture -/
set_option maxRecDepth 100000
/-- an entry: hash, key, value -/
abbrev hE : Type := Nat × Nat × Option Nat
abbrev ndO (d : hE) (nx : Option Nat) : va_E := .inr (11, [.int (nI d.1), .ref d.2.1, va_rf d.2.2, va_rf nx])
def chn (G : gT) (τ : Nat) : List (Nat × hE) → Option Nat → Prop
  | [], r => r = none
  | x :: l, r => r = some x.1 ∧ ∃ nx, G x.1 = some (τ, ndO x.2 nx) ∧ chn G τ l nx
abbrev hmO (tb : Option Nat) (sz : Nat) (md : Int32) (th : Nat) : va_E := .inr (9, [.null, .null, va_rf tb, .null, .int (nI sz), .int md, .int (nI th), .float 1061158912])
abbrev tbC (K : gK) (n : Nat) (f : Nat → Option Nat) : va_E := .inl (kA K 4, n, .inr (.inr (.inr (.inr f))))
/-- a bucket's list -/
def bkt (K : gK) (G : gT) (κ : Bool) (Dom : List Nat) (n b : Nat) (l : List (Nat × hE)) : Prop := (l.map fun x => x.2.1).Nodup ∧ ∀ x ∈ l, x.2.1 % n = b ∧ x.2.1 ∈ Dom ∧ kOK K G κ x.2.2.1 x.2.1
/-- few keys of the domain share a bucket of sixteen -/
def dOK (Dom : List Nat) : Prop := ∀ l : List Nat, l.Nodup → (∀ x ∈ l, x ∈ Dom) → (∀ x ∈ l, ∀ y ∈ l, x % 16 = y % 16) → l.length ≤ 6
def tabs (K : gK) (G : gT) (τ : Nat) (κ : Bool) (Dom : List Nat) (tb n : Nat) (f : Nat → Option Nat) (B : Nat → List (Nat × hE)) : Prop := G tb = some (τ, tbC K n f) ∧ ∀ b, b < n → chn G τ (B b) (f b) ∧ bkt K G κ Dom n b (B b)
def lkp (n : Nat) (B : Nat → List (Nat × hE)) (h : Nat) : Option (Option Nat) := ((B (h % n)).find? fun x => x.2.1 == h).map fun x => x.2.2.2
def nth (n th : Nat) : Prop := (n = 16 ∧ th = 12) ∨ (n = 32 ∧ th = 24) ∨ (n = 64 ∧ th = 48)
/-- a map of sz entries whose values by hash M tells -/
def isHM (K : gK) (G : gT) (τ : Nat) (κ : Bool) (Dom : List Nat) (hm sz : Nat) (M : Nat → Option (Option Nat)) : Prop :=
  ∃ md : Int32, (G hm = some (τ, hmO none 0 md 0) ∧ sz = 0 ∧ ∀ h, M h = none) ∨ ∃ (tb n th : Nat) (f : Nat → Option Nat) (B : Nat → List (Nat × hE)), G hm = some (τ, hmO (some tb) sz md th) ∧ nth n th ∧ sz ≤ th ∧ tabs K G τ κ Dom tb n f B ∧ ∀ h, M h = lkp n B h
theorem chn.keep {G G1 : gT} {τ : Nat} : ∀ {l : List (Nat × hE)} {r : Option Nat}, chn G τ l r → (∀ x ∈ l, ∀ nx, G x.1 = some (τ, ndO x.2 nx) → G1 x.1 = some (τ, ndO x.2 nx)) → chn G1 τ l r
  | [], _, h, _ => h
  | x :: l, _, ⟨h1, nx, h2, h3⟩, hk => ⟨h1, nx, hk x List.mem_cons_self nx h2, h3.keep (fun y hy => hk y (List.mem_cons_of_mem _ hy))⟩
theorem chn.fr {G G1 : gT} {S : Nat → Prop} {τ : Nat} {l : List (Nat × hE)} {r : Option Nat} (h : chn G τ l r) (hF : gF S G G1) (hS : ¬ S τ) : chn G1 τ l r := h.keep (fun x _ nx hx => hF.1 _ _ _ hx hS)
theorem chn.ext {G G1 : gT} {τ : Nat} {l : List (Nat × hE)} {r : Option Nat} (h : chn G τ l r) (hF : gExt G G1) : chn G1 τ l r := h.keep (fun x _ nx hx => hF _ _ _ hx)
/-- every member of a chain is a node -/
theorem chn.mem {G : gT} {τ : Nat} : ∀ {l : List (Nat × hE)} {r : Option Nat}, chn G τ l r → ∀ x ∈ l, ∃ nx, G x.1 = some (τ, ndO x.2 nx)
  | [], _, _, x, hx => by cases hx
  | y :: l, _, ⟨h1, nx, h2, h3⟩, x, hx => by
    rcases List.mem_cons.mp hx with rfl | hx
    · exact ⟨nx, h2⟩
    · exact h3.mem x hx
theorem bkt.fr {K : gK} {G G1 : gT} {S : Nat → Prop} {κ : Bool} {Dom : List Nat} {n b : Nat} {l : List (Nat × hE)} (h : bkt K G κ Dom n b l) (hF : gF S G G1) (hS : ¬ S 10000) : bkt K G1 κ Dom n b l := ⟨h.1, fun x hx => ⟨(h.2 x hx).1, (h.2 x hx).2.1, (h.2 x hx).2.2.fr hF hS⟩⟩
theorem bkt.ext {K : gK} {G G1 : gT} {κ : Bool} {Dom : List Nat} {n b : Nat} {l : List (Nat × hE)} (h : bkt K G κ Dom n b l) (hF : gExt G G1) : bkt K G1 κ Dom n b l := h.fr (S := fun _ => False) hF.gF (fun q => q)
theorem isHM.fr {K : gK} {G G1 : gT} {S : Nat → Prop} {τ : Nat} {κ : Bool} {Dom : List Nat} {hm sz : Nat} {M : Nat → Option (Option Nat)} (h : isHM K G τ κ Dom hm sz M) (hF : gF S G G1) (hS : ¬ S τ) (hS0 : ¬ S 10000) : isHM K G1 τ κ Dom hm sz M := by
  obtain ⟨md, ⟨h1, h2⟩ | ⟨tb, n, th, f, B, h1, h2, h3, ⟨h4, h5⟩, h6⟩⟩ := h
  · exact ⟨md, Or.inl ⟨hF.1 _ _ _ h1 hS, h2⟩⟩
  · exact ⟨md, Or.inr ⟨tb, n, th, f, B, hF.1 _ _ _ h1 hS, h2, h3, ⟨hF.1 _ _ _ h4 hS, fun b hb => ⟨(h5 b hb).1.fr hF hS, (h5 b hb).2.fr hF hS0⟩⟩, h6⟩⟩
theorem isHM.ext {K : gK} {G G1 : gT} {τ : Nat} {κ : Bool} {Dom : List Nat} {hm sz : Nat} {M : Nat → Option (Option Nat)} (h : isHM K G τ κ Dom hm sz M) (hF : gExt G G1) : isHM K G1 τ κ Dom hm sz M := h.fr (S := fun _ => False) hF.gF (fun q => q) (fun q => q)
/-- two members of one address have one hash -/
theorem nd_hash {G : gT} {τ a : Nat} {d d2 : hE} {nx nx2 : Option Nat} (h1 : G a = some (τ, ndO d nx)) (h2 : G a = some (τ, ndO d2 nx2)) (hd : d.1 < 65536) (hd2 : d2.1 < 65536) : d.1 = d2.1 := by
  rw [h1] at h2
  injection h2 with h2
  injection h2 with _ h2
  injection h2 with h2
  injection h2 with _ h2
  injection h2 with h2 _
  injection h2 with h2
  have e := congrArg Int32.toInt h2
  rw [nI_toInt (by omega), nI_toInt (by omega)] at e
  omega
/-- a chain's end is set anew: one more entry -/
theorem chn.snoc {G G1 : gT} {τ q : Nat} {d : hE} : ∀ {l : List (Nat × hE)} {r : Option Nat} {x : Nat × hE}, chn G τ (l ++ [x]) r → (∀ y ∈ l, ∀ nx, G y.1 = some (τ, ndO y.2 nx) → G1 y.1 = some (τ, ndO y.2 nx)) → G1 x.1 = some (τ, ndO x.2 (some q)) → G1 q = some (τ, ndO d none) → chn G1 τ (l ++ [x, (q, d)]) r
  | [], _, x, ⟨h1, nx, h2, h3⟩, _, hx, hq => ⟨h1, some q, hx, rfl, none, hq, rfl⟩
  | y :: l, _, x, ⟨h1, nx, h2, h3⟩, hk, hx, hq => ⟨h1, nx, hk y List.mem_cons_self nx h2, h3.snoc (fun z hz => hk z (List.mem_cons_of_mem _ hz)) hx hq⟩
/-! rows of a reference that may be null -/
section RQ
variable {p : Program} {l : Launch} {e : Env} {R : Room} {s : State} {m : MethodId} {args : Array Value} {below : List Frame} {meth : Method} {c : Code} {H : Heap} {locs : List Loc} {cells slots : Nat} {Q : State → Prop}
variable {cc : ByteArray} {pc : Nat} {ls : Array Slot} {rest : List Value} {K : gK} {own : String} {nL : Nat} {G : gT} {r : Option Nat}
theorem lv_aload_nQ (hexec : p.tables.exec = Jvm.exec) (hb : c.code = cc) {k : Fin 4} {i : Nat} (hdg : decode cc pc = .ok (.aload_n k, 1)) (hi : (k : Nat) = i) (hl : ls[i]? = some (.val (va_rf r)))
    (kk : W p l e R s m args below meth c H locs cells slots Q (F0 m (pc + 1) ls (va_rf r :: rest))) : W p l e R s m args below meth c H locs cells slots Q (F0 m pc ls rest) := by
  cases r with
  | none => exact lv_aload_nN hexec hb hdg hi hl kk
  | some x => exact lv_aload_n hexec hb hdg hi hl kk
theorem lv_aloadQ (hexec : p.tables.exec = Jvm.exec) (hb : c.code = cc) {i : Nat} (hdg : decode cc pc = .ok (.aload i, 2)) (hl : ls[i]? = some (.val (va_rf r)))
    (kk : W p l e R s m args below meth c H locs cells slots Q (F0 m (pc + 2) ls (va_rf r :: rest))) : W p l e R s m args below meth c H locs cells slots Q (F0 m pc ls rest) := by
  cases r with
  | none => exact lv_aloadN hexec hb hdg hl kk
  | some x => exact lv_aload hexec hb hdg hl kk
theorem lv_astore_nQ (hexec : p.tables.exec = Jvm.exec) (hb : c.code = cc) {k : Fin 4} {i : Nat} {lv lv' : List (Nat × Value)} (hdg : decode cc pc = .ok (.astore_n k, 1)) (hi : (k : Nat) = i) (h : lv_has ls nL lv) (hn : i < nL) (hl : (i, va_rf r) :: lv.filter (fun q => !(q.1 == i) && !(q.1 + 1 == i && q.2.category == 2)) = lv')
    (kk : ∀ ls1 : Array Slot, lv_has ls1 nL lv' → W p l e R s m args below meth c H locs cells slots Q (F0 m (pc + 1) ls1 rest)) : W p l e R s m args below meth c H locs cells slots Q (F0 m pc ls (va_rf r :: rest)) := by
  cases r with
  | none => exact lv_astore_nN hexec hb hdg hi h hn hl kk
  | some x => exact lv_astore_n hexec hb hdg hi h hn hl kk
theorem lv_astoreQ (hexec : p.tables.exec = Jvm.exec) (hb : c.code = cc) {i : Nat} {lv lv' : List (Nat × Value)} (hdg : decode cc pc = .ok (.astore i, 2)) (h : lv_has ls nL lv) (hn : i < nL) (hl : (i, va_rf r) :: lv.filter (fun q => !(q.1 == i) && !(q.1 + 1 == i && q.2.category == 2)) = lv')
    (kk : ∀ ls1 : Array Slot, lv_has ls1 nL lv' → W p l e R s m args below meth c H locs cells slots Q (F0 m (pc + 2) ls1 rest)) : W p l e R s m args below meth c H locs cells slots Q (F0 m pc ls (va_rf r :: rest)) := by
  cases r with
  | none => exact lv_astoreN hexec hb hdg h hn hl kk
  | some x => exact lv_astore hexec hb hdg h hn hl kk
theorem lv_ifnonnullQ (hexec : p.tables.exec = Jvm.exec) (hb : c.code = cc) {off : Int} (tgt : Nat) (hdg : decode cc pc = .ok (.ifnonnull off, 3)) (ht : (pc : Int) + off = (tgt : Int))
    (kt : ∀ x, r = some x → W p l e R s m args below meth c H locs cells slots Q (F0 m tgt ls rest)) (kf : r = none → W p l e R s m args below meth c H locs cells slots Q (F0 m (pc + 3) ls rest)) : W p l e R s m args below meth c H locs cells slots Q (F0 m pc ls (va_rf r :: rest)) := by
  cases r with
  | none => exact lv_ifnonnullN hexec hb hdg (kf rfl)
  | some x => exact lv_ifnonnull hexec hb hdg ht (kt x rfl)
theorem lv_ifnullQ (hexec : p.tables.exec = Jvm.exec) (hb : c.code = cc) {off : Int} (tgt : Nat) (hdg : decode cc pc = .ok (.ifnull off, 3)) (ht : (pc : Int) + off = (tgt : Int))
    (kt : r = none → W p l e R s m args below meth c H locs cells slots Q (F0 m tgt ls rest)) (kf : ∀ x, r = some x → W p l e R s m args below meth c H locs cells slots Q (F0 m (pc + 3) ls rest)) : W p l e R s m args below meth c H locs cells slots Q (F0 m pc ls (va_rf r :: rest)) := by
  cases r with
  | none => exact lv_ifnullN hexec hb hdg ht (kt rfl)
  | some x => exact lv_ifnull hexec hb hdg (kf x rfl)
/-- a chain whose last entry's next is open -/
def chO (G : gT) (τ : Nat) : List (Nat × hE) → Option Nat → Prop
  | [], r => r = none
  | x :: l, r => r = some x.1 ∧ ∃ nx, G x.1 = some (τ, ndO x.2 nx) ∧ (l ≠ [] → chO G τ l nx)
theorem chO.keep {G G1 : gT} {τ : Nat} : ∀ {l : List (Nat × hE)} {r : Option Nat}, chO G τ l r → (∀ x ∈ l, ∀ nx, G x.1 = some (τ, ndO x.2 nx) → G1 x.1 = some (τ, ndO x.2 nx)) → chO G1 τ l r
  | [], _, h, _ => h
  | x :: l, _, ⟨h1, nx, h2, h3⟩, hk => ⟨h1, nx, hk x List.mem_cons_self nx h2, fun hl => (h3 hl).keep (fun y hy => hk y (List.mem_cons_of_mem _ hy))⟩
/-- the last entry is set anew: another behind it -/
theorem chO.link {G G1 : gT} {τ : Nat} {y : Nat × hE} {ny : Option Nat} : ∀ {l : List (Nat × hE)} {r : Option Nat} {x : Nat × hE}, chO G τ (l ++ [x]) r → (∀ z ∈ l, ∀ nx, G z.1 = some (τ, ndO z.2 nx) → G1 z.1 = some (τ, ndO z.2 nx)) → G1 x.1 = some (τ, ndO x.2 (some y.1)) → G1 y.1 = some (τ, ndO y.2 ny) → chO G1 τ (l ++ [x] ++ [y]) r
  | [], _, x, ⟨h1, nx, h2, h3⟩, _, hx, hq => ⟨h1, some y.1, hx, fun _ => ⟨rfl, ny, hq, fun h => absurd rfl h⟩⟩
  | z :: l, _, x, ⟨h1, nx, h2, h3⟩, hk, hx, hq => ⟨h1, nx, hk z List.mem_cons_self nx h2, fun _ => (h3 (by simp)).link (fun w hw => hk w (List.mem_cons_of_mem _ hw)) hx hq⟩
/-- the last entry's next is null: a chain -/
theorem chO.close {G G1 : gT} {τ : Nat} : ∀ {l : List (Nat × hE)} {r : Option Nat} {x : Nat × hE}, chO G τ (l ++ [x]) r → (∀ z ∈ l, ∀ nx, G z.1 = some (τ, ndO z.2 nx) → G1 z.1 = some (τ, ndO z.2 nx)) → G1 x.1 = some (τ, ndO x.2 none) → chn G1 τ (l ++ [x]) r
  | [], _, x, ⟨h1, nx, h2, h3⟩, _, hx => ⟨h1, none, hx, rfl⟩
  | z :: l, _, x, ⟨h1, nx, h2, h3⟩, hk, hx => ⟨h1, nx, hk z List.mem_cons_self nx h2, (h3 (by simp)).close (fun w hw => hk w (List.mem_cons_of_mem _ hw)) hx⟩
theorem chO.last {G : gT} {τ : Nat} : ∀ {l : List (Nat × hE)} {r : Option Nat} {x : Nat × hE}, chO G τ (l ++ [x]) r → ∃ nx, G x.1 = some (τ, ndO x.2 nx)
  | [], _, x, ⟨h1, nx, h2, h3⟩ => ⟨nx, h2⟩
  | z :: l, _, x, ⟨h1, nx, h2, h3⟩ => (h3 (by simp)).last
end RQ
