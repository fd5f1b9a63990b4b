/-! copying a row of now into behind or foretold -/
set_option maxRecDepth 100000
theorem gp_X2_copy : gPar yX2_copy 2 := ⟨⟨by decide, by decide⟩, by decide +kernel⟩
theorem cp_eq (f g : Nat → Int64) (i : Nat) (hi : i < 5) : vp_updL (fun z => if z < i then f z else g z) i (f i) = fun z => if z < i + 1 then f z else g z := by
  funext z
  by_cases h1 : z = i
  · subst h1
    simp [vp_updL]
  · by_cases h2 : z < i
    · rw [if_pos (by omega)]
      simp [vp_updL, h1, h2]
    · rw [if_neg (by omega)]
      simp [vp_updL, h1, h2]
theorem met_X2_copy (l : Launch) (K : gK) (a b ta tb : Nat) (f g : Nat → Int64) (G : gT) (ha : G a = some (ta, .inl (kA K 1, 5, .inr (.inl f)))) (hbb : G b = some (tb, .inl (kA K 1, 5, .inr (.inl g)))) (hab : ta ≠ tb) :
    gMet l K yX2_copy cX2_copy 3 none 0 0 0 0 [.ref a, .ref b] G (fun w G1 => w = none ∧ G1 = gU G b tb (.inl (kA K 1, 5, .inr (.inl (fun z => if z < 5 then f z else g z))))) := by
  refine gMet.of (by decide) (Nat.le_of_ble_eq_true rfl) (fun p e s m below meth c ls hx hb X hr hin hG hS hl => ?_)
  have X : gC K p s m _ meth c cX2_copy 3 "KalmanQuayModel" := X
  have hl : lv_has ls 3 [(0, .ref a), (1, .ref b)] := hl
  refine lv_iconst (v := 0) hx hb dX2_copy_0 (by decide) ?_
  refine lv_istore_n (lv' := [(2, .int 0), (0, .ref a), (1, .ref b)]) hx hb dX2_copy_1 rfl hl (by decide) rfl (fun ls hl => ?_)
  have hne : a ≠ b := g_ne_t ha hbb hab
  have loop : ∀ (n i : Nat) (G1 : gT) (H : Heap) (locs : List Loc) (ls : Array Slot), i + n = 5 → (∀ q : Nat, q ≠ b → G1 q = G q) → G1 b = some (tb, .inl (kA K 1, 5, .inr (.inl (fun z => if z < i then f z else g z)))) → gH K G1 H → va_S (gA K) s.heap H locs → lv_has ls 3 [(2, .int (nI i)), (0, .ref a), (1, .ref b)] → W p l e ({ frames := 0, cells := 0, slots := 0, locals := 0 } : Room) s m ([.ref a, .ref b] : List Value).toArray below meth c H locs 0 0 (MQ below (gQ K (fun w G1 => w = none ∧ G1 = gU G b tb (.inl (kA K 1, 5, .inr (.inl (fun z => if z < 5 then f z else g z)))))) ([.ref a, .ref b] : List Value).toArray s 0 0 (gA K)) (F0 m 2 ls []) := by
    intro n
    induction n with
    | zero =>
      intro i G1 H locs ls hi hq hB hG hS hl
      refine lv_iload_n hx hb dX2_copy_2 rfl (lv_at hl 0 rfl) ?_
      refine lv_iconst (v := 5) hx hb dX2_copy_3 (by decide) ?_
      refine g_icmp_ge hx hb 19 dX2_copy_4 (by decide) (a := i) (b := 5) rfl rfl (by omega) (by omega) (fun c_4 => ?_) (fun c_4 => ?_)
      · refine g_vret X hr hG hS ⟨rfl, ?_⟩ (Nat.le_refl _) (Nat.le_refl _) dX2_copy_19
        funext q
        by_cases hqb : q = b
        · subst hqb
          rw [hB, gU_self, show i = 5 by omega]
        · rw [hq q hqb, gU_ne hqb]
      · exact absurd c_4 (by omega)
    | succ n ih =>
      intro i G1 H locs ls hi hq hB hG hS hl
      refine lv_iload_n hx hb dX2_copy_2 rfl (lv_at hl 0 rfl) ?_
      refine lv_iconst (v := 5) hx hb dX2_copy_3 (by decide) ?_
      refine g_icmp_ge hx hb 19 dX2_copy_4 (by decide) (a := i) (b := 5) rfl rfl (by omega) (by omega) (fun c_4 => ?_) (fun c_4 => ?_)
      · exact absurd c_4 (by omega)
      · refine lv_aload_n hx hb dX2_copy_7 rfl (lv_at hl 2 rfl) ?_
        refine lv_iload_n hx hb dX2_copy_8 rfl (lv_at hl 0 rfl) ?_
        refine lv_aload_n hx hb dX2_copy_9 rfl (lv_at hl 1 rfl) ?_
        refine lv_iload_n hx hb dX2_copy_10 rfl (lv_at hl 0 rfl) ?_
        refine g_lald X hG ((hq a hne).trans ha) rfl c_4 (by omega) dX2_copy_11 ?_
        refine g_last X hG hS hB rfl c_4 (by omega) dX2_copy_12 (fun H locs hG1 hS => ?_)
        refine lv_iinc (v := nI (i + 1)) (lv' := [(2, .int (nI (i + 1))), (0, .ref a), (1, .ref b)]) hx hb dX2_copy_13 hl (k := 0) rfl (n_add (a := i) (b := 1) rfl rfl) (by decide) rfl (fun ls hl => ?_)
        refine lv_goto (tgt := 2) hx hb dX2_copy_16 (by decide) ?_
        refine ih (i + 1) _ H locs ls (by omega) (fun q hqb => ?_) ?_ hG1 hS hl
        · rw [gU_ne hqb]; exact hq q hqb
        · rw [gU_self, cp_eq f g i c_4]
  exact loop 5 0 G s.heap [] ls (by omega) (fun _ _ => rfl) (by rw [hbb]; simp) hG hS hl
section CPY
variable {p : Program} {l : Launch} {e : Env} {R : Room} {s : State} {m : MethodId} {args : Array Value} {below : List Frame} {meth : Method} {c : Code} {H : Heap} {locs : List Loc} {cells slots : Nat} {Q : State → Prop}
variable {cc : ByteArray} {pc index : Nat} {ls : Array Slot} {rest : List Value} {K : gK} {nL : Nat} {G0 : gT} {own : String} {mo : Nat} {A : mA} {σ : mS} {L : List (Nat × Value)} {t b : Nat}
theorem m_copyF (X : gC K p s m args meth c cc nL own) (h1 : Cond.methodLink own index yX2_copy ∈ lw_all) (ht : t < 40) (hb : b < 64) (hM : mH K mo A σ G0 H) (hS : va_S (gA K) s.heap H locs) (hl : lv_has ls nL L) (hR : 0 + 1 ≤ R.frames ∧ 24 + (3 + 11) + 0 ≤ R.locals) (hf : cells ≤ R.cells ∧ slots ≤ R.slots) (hroom : (rest.map fun v => v.category).sum ≤ 24) (hdg : decode cc pc = .ok (.invokestatic index, 3))
    (kk : ∀ (H1 : Heap) (locs1 : List Loc), mH K mo A (cF σ t b) G0 H1 → va_S (gA K) s.heap H1 locs1 → W p l e R s m args below meth c H1 locs1 cells slots Q (F0 m (pc + 3) ls rest)) : W p l e R s m args below meth c H locs cells slots Q (F0 m pc ls (.ref (A.2.2.2.2.2 t b) :: .ref (A.2.1 t) :: rest)) := by
  obtain ⟨G, hR0, hG, hF⟩ := hM
  refine g_callS X (met_X2_copy l K (A.2.1 t) (A.2.2.2.2.2 t b) (100 + t) (4000 + (64 * t + b)) _ _ G (hR0 _ _ _ (mC_row ht)) (hR0 _ _ _ (mC_f2 ht hb)) (by omega)) gp_X2_copy rfl h1 q1493 q42 q1494 hG hS hl hR hf hroom rfl hdg (fun w G1 H1 locs1 hp hG1 hS1 => ?_)
  obtain ⟨rfl, rfl⟩ := hp
  refine kk H1 locs1 (hR0.put hF (t0 := 4000 + (64 * t + b)) (mC_f2 ht hb) (mC_f2 ht hb) (fun t ht => mC_cF hb t ht) (by omega) ?_) hS1
  have he : (fun z => if z < 5 then mN σ t z else mF σ t b z) = fun z => mF (cF σ t b) t b z := by
    funext z
    simp [mF_cF]
  rw [← he]
  exact hG1
theorem m_copyB (X : gC K p s m args meth c cc nL own) (h1 : Cond.methodLink own index yX2_copy ∈ lw_all) (ht : t < 40) (hb : b < 64) (hM : mH K mo A σ G0 H) (hS : va_S (gA K) s.heap H locs) (hl : lv_has ls nL L) (hR : 0 + 1 ≤ R.frames ∧ 24 + (3 + 11) + 0 ≤ R.locals) (hf : cells ≤ R.cells ∧ slots ≤ R.slots) (hroom : (rest.map fun v => v.category).sum ≤ 24) (hdg : decode cc pc = .ok (.invokestatic index, 3))
    (kk : ∀ (H1 : Heap) (locs1 : List Loc), mH K mo A (cB σ t b) G0 H1 → va_S (gA K) s.heap H1 locs1 → W p l e R s m args below meth c H1 locs1 cells slots Q (F0 m (pc + 3) ls rest)) : W p l e R s m args below meth c H locs cells slots Q (F0 m pc ls (.ref (A.2.2.2.1 t b) :: .ref (A.2.1 t) :: rest)) := by
  obtain ⟨G, hR0, hG, hF⟩ := hM
  refine g_callS X (met_X2_copy l K (A.2.1 t) (A.2.2.2.1 t b) (100 + t) (1000 + (64 * t + b)) _ _ G (hR0 _ _ _ (mC_row ht)) (hR0 _ _ _ (mC_b2 ht hb)) (by omega)) gp_X2_copy rfl h1 q1493 q42 q1494 hG hS hl hR hf hroom rfl hdg (fun w G1 H1 locs1 hp hG1 hS1 => ?_)
  obtain ⟨rfl, rfl⟩ := hp
  refine kk H1 locs1 (hR0.put hF (t0 := 1000 + (64 * t + b)) (mC_b2 ht hb) (mC_b2 ht hb) (fun t ht => mC_cB hb t ht) (by omega) ?_) hS1
  have he : (fun z => if z < 5 then mN σ t z else mB σ t b z) = fun z => mB (cB σ t b) t b z := by
    funext z
    simp [mB_cB]
  rw [← he]
  exact hG1
end CPY
