/-! the reference: its state as functions, keyed by the numbers of its fields; its picture in the ghost heap; its rows (printed by gen/mkit.py) -/
set_option maxRecDepth 100000
abbrev mS : Type := (Nat → Nat) × (Nat → Int32) × (Nat → Int64) × (Nat → Nat → Nat) × (Nat → Nat → Int32) × (Nat → Nat → Bool) × (Nat → Nat → Int64) × (Nat → Nat → Int64) × (Nat → Nat → Nat → Int64) × (Nat → Nat → Nat → Int64)
def mn (σ : mS) (i : Nat) : Nat := σ.1 i
def mz (σ : mS) (i : Nat) : Int32 := σ.2.1 i
def ml (σ : mS) (i : Nat) : Int64 := σ.2.2.1 i
def mb (σ : mS) (i j : Nat) : Nat := σ.2.2.2.1 i j
def ma (σ : mS) (i j : Nat) : Int32 := σ.2.2.2.2.1 i j
def mc (σ : mS) (i j : Nat) : Bool := σ.2.2.2.2.2.1 i j
def mj (σ : mS) (i j : Nat) : Int64 := σ.2.2.2.2.2.2.1 i j
def mN (σ : mS) (i j : Nat) : Int64 := σ.2.2.2.2.2.2.2.1 i j
def mB (σ : mS) (i j k : Nat) : Int64 := σ.2.2.2.2.2.2.2.2.1 i j k
def mF (σ : mS) (i j k : Nat) : Int64 := σ.2.2.2.2.2.2.2.2.2 i j k
def sn (σ : mS) (i : Nat) (v : Nat) : mS := ((fun x => if x = i then v else σ.1 x), σ.2.1, σ.2.2.1, σ.2.2.2.1, σ.2.2.2.2.1, σ.2.2.2.2.2.1, σ.2.2.2.2.2.2.1, σ.2.2.2.2.2.2.2.1, σ.2.2.2.2.2.2.2.2.1, σ.2.2.2.2.2.2.2.2.2)
def sz (σ : mS) (i : Nat) (v : Int32) : mS := (σ.1, (fun x => if x = i then v else σ.2.1 x), σ.2.2.1, σ.2.2.2.1, σ.2.2.2.2.1, σ.2.2.2.2.2.1, σ.2.2.2.2.2.2.1, σ.2.2.2.2.2.2.2.1, σ.2.2.2.2.2.2.2.2.1, σ.2.2.2.2.2.2.2.2.2)
def sl (σ : mS) (i : Nat) (v : Int64) : mS := (σ.1, σ.2.1, (fun x => if x = i then v else σ.2.2.1 x), σ.2.2.2.1, σ.2.2.2.2.1, σ.2.2.2.2.2.1, σ.2.2.2.2.2.2.1, σ.2.2.2.2.2.2.2.1, σ.2.2.2.2.2.2.2.2.1, σ.2.2.2.2.2.2.2.2.2)
def sb (σ : mS) (i j : Nat) (v : Nat) : mS := (σ.1, σ.2.1, σ.2.2.1, (fun x y => if x = i ∧ y = j then v else σ.2.2.2.1 x y), σ.2.2.2.2.1, σ.2.2.2.2.2.1, σ.2.2.2.2.2.2.1, σ.2.2.2.2.2.2.2.1, σ.2.2.2.2.2.2.2.2.1, σ.2.2.2.2.2.2.2.2.2)
def sa (σ : mS) (i j : Nat) (v : Int32) : mS := (σ.1, σ.2.1, σ.2.2.1, σ.2.2.2.1, (fun x y => if x = i ∧ y = j then v else σ.2.2.2.2.1 x y), σ.2.2.2.2.2.1, σ.2.2.2.2.2.2.1, σ.2.2.2.2.2.2.2.1, σ.2.2.2.2.2.2.2.2.1, σ.2.2.2.2.2.2.2.2.2)
def sc (σ : mS) (i j : Nat) (v : Bool) : mS := (σ.1, σ.2.1, σ.2.2.1, σ.2.2.2.1, σ.2.2.2.2.1, (fun x y => if x = i ∧ y = j then v else σ.2.2.2.2.2.1 x y), σ.2.2.2.2.2.2.1, σ.2.2.2.2.2.2.2.1, σ.2.2.2.2.2.2.2.2.1, σ.2.2.2.2.2.2.2.2.2)
def sj (σ : mS) (i j : Nat) (v : Int64) : mS := (σ.1, σ.2.1, σ.2.2.1, σ.2.2.2.1, σ.2.2.2.2.1, σ.2.2.2.2.2.1, (fun x y => if x = i ∧ y = j then v else σ.2.2.2.2.2.2.1 x y), σ.2.2.2.2.2.2.2.1, σ.2.2.2.2.2.2.2.2.1, σ.2.2.2.2.2.2.2.2.2)
def sN (σ : mS) (i j : Nat) (v : Int64) : mS := (σ.1, σ.2.1, σ.2.2.1, σ.2.2.2.1, σ.2.2.2.2.1, σ.2.2.2.2.2.1, σ.2.2.2.2.2.2.1, (fun x y => if x = i ∧ y = j then v else σ.2.2.2.2.2.2.2.1 x y), σ.2.2.2.2.2.2.2.2.1, σ.2.2.2.2.2.2.2.2.2)
def sB (σ : mS) (i j k : Nat) (v : Int64) : mS := (σ.1, σ.2.1, σ.2.2.1, σ.2.2.2.1, σ.2.2.2.2.1, σ.2.2.2.2.2.1, σ.2.2.2.2.2.2.1, σ.2.2.2.2.2.2.2.1, (fun x y z => if x = i ∧ y = j ∧ z = k then v else σ.2.2.2.2.2.2.2.2.1 x y z), σ.2.2.2.2.2.2.2.2.2)
def sF (σ : mS) (i j k : Nat) (v : Int64) : mS := (σ.1, σ.2.1, σ.2.2.1, σ.2.2.2.1, σ.2.2.2.2.1, σ.2.2.2.2.2.1, σ.2.2.2.2.2.2.1, σ.2.2.2.2.2.2.2.1, σ.2.2.2.2.2.2.2.2.1, (fun x y z => if x = i ∧ y = j ∧ z = k then v else σ.2.2.2.2.2.2.2.2.2 x y z))
def cB (σ : mS) (t b : Nat) : mS := (σ.1, σ.2.1, σ.2.2.1, σ.2.2.2.1, σ.2.2.2.2.1, σ.2.2.2.2.2.1, σ.2.2.2.2.2.2.1, σ.2.2.2.2.2.2.2.1, (fun x y z => if x = t ∧ y = b then (if z < 5 then mN σ t z else σ.2.2.2.2.2.2.2.2.1 x y z) else σ.2.2.2.2.2.2.2.2.1 x y z), σ.2.2.2.2.2.2.2.2.2)
def cF (σ : mS) (t b : Nat) : mS := (σ.1, σ.2.1, σ.2.2.1, σ.2.2.2.1, σ.2.2.2.2.1, σ.2.2.2.2.2.1, σ.2.2.2.2.2.2.1, σ.2.2.2.2.2.2.2.1, σ.2.2.2.2.2.2.2.2.1, (fun x y z => if x = t ∧ y = b then (if z < 5 then mN σ t z else σ.2.2.2.2.2.2.2.2.2 x y z) else σ.2.2.2.2.2.2.2.2.2 x y z))
theorem mn_sn (σ : mS) (i : Nat) (v : Nat) (x : Nat) : mn (sn σ i v) x = if x = i then v else mn σ x := Eq.trans rfl rfl
theorem mn_sz (σ : mS) (i : Nat) (v : Int32) (x : Nat) : mn (sz σ i v) x = mn σ x := Eq.trans rfl rfl
theorem mn_sl (σ : mS) (i : Nat) (v : Int64) (x : Nat) : mn (sl σ i v) x = mn σ x := Eq.trans rfl rfl
theorem mn_sb (σ : mS) (i j : Nat) (v : Nat) (x : Nat) : mn (sb σ i j v) x = mn σ x := Eq.trans rfl rfl
theorem mn_sa (σ : mS) (i j : Nat) (v : Int32) (x : Nat) : mn (sa σ i j v) x = mn σ x := Eq.trans rfl rfl
theorem mn_sc (σ : mS) (i j : Nat) (v : Bool) (x : Nat) : mn (sc σ i j v) x = mn σ x := Eq.trans rfl rfl
theorem mn_sj (σ : mS) (i j : Nat) (v : Int64) (x : Nat) : mn (sj σ i j v) x = mn σ x := Eq.trans rfl rfl
theorem mn_sN (σ : mS) (i j : Nat) (v : Int64) (x : Nat) : mn (sN σ i j v) x = mn σ x := Eq.trans rfl rfl
theorem mn_sB (σ : mS) (i j k : Nat) (v : Int64) (x : Nat) : mn (sB σ i j k v) x = mn σ x := Eq.trans rfl rfl
theorem mn_sF (σ : mS) (i j k : Nat) (v : Int64) (x : Nat) : mn (sF σ i j k v) x = mn σ x := Eq.trans rfl rfl
theorem mn_cB (σ : mS) (t b x : Nat) : mn (cB σ t b) x = mn σ x := Eq.trans rfl rfl
theorem mn_cF (σ : mS) (t b x : Nat) : mn (cF σ t b) x = mn σ x := Eq.trans rfl rfl
theorem mz_sz (σ : mS) (i : Nat) (v : Int32) (x : Nat) : mz (sz σ i v) x = if x = i then v else mz σ x := Eq.trans rfl rfl
theorem mz_sn (σ : mS) (i : Nat) (v : Nat) (x : Nat) : mz (sn σ i v) x = mz σ x := Eq.trans rfl rfl
theorem mz_sl (σ : mS) (i : Nat) (v : Int64) (x : Nat) : mz (sl σ i v) x = mz σ x := Eq.trans rfl rfl
theorem mz_sb (σ : mS) (i j : Nat) (v : Nat) (x : Nat) : mz (sb σ i j v) x = mz σ x := Eq.trans rfl rfl
theorem mz_sa (σ : mS) (i j : Nat) (v : Int32) (x : Nat) : mz (sa σ i j v) x = mz σ x := Eq.trans rfl rfl
theorem mz_sc (σ : mS) (i j : Nat) (v : Bool) (x : Nat) : mz (sc σ i j v) x = mz σ x := Eq.trans rfl rfl
theorem mz_sj (σ : mS) (i j : Nat) (v : Int64) (x : Nat) : mz (sj σ i j v) x = mz σ x := Eq.trans rfl rfl
theorem mz_sN (σ : mS) (i j : Nat) (v : Int64) (x : Nat) : mz (sN σ i j v) x = mz σ x := Eq.trans rfl rfl
theorem mz_sB (σ : mS) (i j k : Nat) (v : Int64) (x : Nat) : mz (sB σ i j k v) x = mz σ x := Eq.trans rfl rfl
theorem mz_sF (σ : mS) (i j k : Nat) (v : Int64) (x : Nat) : mz (sF σ i j k v) x = mz σ x := Eq.trans rfl rfl
theorem mz_cB (σ : mS) (t b x : Nat) : mz (cB σ t b) x = mz σ x := Eq.trans rfl rfl
theorem mz_cF (σ : mS) (t b x : Nat) : mz (cF σ t b) x = mz σ x := Eq.trans rfl rfl
theorem ml_sl (σ : mS) (i : Nat) (v : Int64) (x : Nat) : ml (sl σ i v) x = if x = i then v else ml σ x := Eq.trans rfl rfl
theorem ml_sn (σ : mS) (i : Nat) (v : Nat) (x : Nat) : ml (sn σ i v) x = ml σ x := Eq.trans rfl rfl
theorem ml_sz (σ : mS) (i : Nat) (v : Int32) (x : Nat) : ml (sz σ i v) x = ml σ x := Eq.trans rfl rfl
theorem ml_sb (σ : mS) (i j : Nat) (v : Nat) (x : Nat) : ml (sb σ i j v) x = ml σ x := Eq.trans rfl rfl
theorem ml_sa (σ : mS) (i j : Nat) (v : Int32) (x : Nat) : ml (sa σ i j v) x = ml σ x := Eq.trans rfl rfl
theorem ml_sc (σ : mS) (i j : Nat) (v : Bool) (x : Nat) : ml (sc σ i j v) x = ml σ x := Eq.trans rfl rfl
theorem ml_sj (σ : mS) (i j : Nat) (v : Int64) (x : Nat) : ml (sj σ i j v) x = ml σ x := Eq.trans rfl rfl
theorem ml_sN (σ : mS) (i j : Nat) (v : Int64) (x : Nat) : ml (sN σ i j v) x = ml σ x := Eq.trans rfl rfl
theorem ml_sB (σ : mS) (i j k : Nat) (v : Int64) (x : Nat) : ml (sB σ i j k v) x = ml σ x := Eq.trans rfl rfl
theorem ml_sF (σ : mS) (i j k : Nat) (v : Int64) (x : Nat) : ml (sF σ i j k v) x = ml σ x := Eq.trans rfl rfl
theorem ml_cB (σ : mS) (t b x : Nat) : ml (cB σ t b) x = ml σ x := Eq.trans rfl rfl
theorem ml_cF (σ : mS) (t b x : Nat) : ml (cF σ t b) x = ml σ x := Eq.trans rfl rfl
theorem mb_sb (σ : mS) (i j : Nat) (v : Nat) (x y : Nat) : mb (sb σ i j v) x y = if x = i ∧ y = j then v else mb σ x y := Eq.trans rfl rfl
theorem mb_sn (σ : mS) (i : Nat) (v : Nat) (x y : Nat) : mb (sn σ i v) x y = mb σ x y := Eq.trans rfl rfl
theorem mb_sz (σ : mS) (i : Nat) (v : Int32) (x y : Nat) : mb (sz σ i v) x y = mb σ x y := Eq.trans rfl rfl
theorem mb_sl (σ : mS) (i : Nat) (v : Int64) (x y : Nat) : mb (sl σ i v) x y = mb σ x y := Eq.trans rfl rfl
theorem mb_sa (σ : mS) (i j : Nat) (v : Int32) (x y : Nat) : mb (sa σ i j v) x y = mb σ x y := Eq.trans rfl rfl
theorem mb_sc (σ : mS) (i j : Nat) (v : Bool) (x y : Nat) : mb (sc σ i j v) x y = mb σ x y := Eq.trans rfl rfl
theorem mb_sj (σ : mS) (i j : Nat) (v : Int64) (x y : Nat) : mb (sj σ i j v) x y = mb σ x y := Eq.trans rfl rfl
theorem mb_sN (σ : mS) (i j : Nat) (v : Int64) (x y : Nat) : mb (sN σ i j v) x y = mb σ x y := Eq.trans rfl rfl
theorem mb_sB (σ : mS) (i j k : Nat) (v : Int64) (x y : Nat) : mb (sB σ i j k v) x y = mb σ x y := Eq.trans rfl rfl
theorem mb_sF (σ : mS) (i j k : Nat) (v : Int64) (x y : Nat) : mb (sF σ i j k v) x y = mb σ x y := Eq.trans rfl rfl
theorem mb_cB (σ : mS) (t b x y : Nat) : mb (cB σ t b) x y = mb σ x y := Eq.trans rfl rfl
theorem mb_cF (σ : mS) (t b x y : Nat) : mb (cF σ t b) x y = mb σ x y := Eq.trans rfl rfl
theorem ma_sa (σ : mS) (i j : Nat) (v : Int32) (x y : Nat) : ma (sa σ i j v) x y = if x = i ∧ y = j then v else ma σ x y := Eq.trans rfl rfl
theorem ma_sn (σ : mS) (i : Nat) (v : Nat) (x y : Nat) : ma (sn σ i v) x y = ma σ x y := Eq.trans rfl rfl
theorem ma_sz (σ : mS) (i : Nat) (v : Int32) (x y : Nat) : ma (sz σ i v) x y = ma σ x y := Eq.trans rfl rfl
theorem ma_sl (σ : mS) (i : Nat) (v : Int64) (x y : Nat) : ma (sl σ i v) x y = ma σ x y := Eq.trans rfl rfl
theorem ma_sb (σ : mS) (i j : Nat) (v : Nat) (x y : Nat) : ma (sb σ i j v) x y = ma σ x y := Eq.trans rfl rfl
theorem ma_sc (σ : mS) (i j : Nat) (v : Bool) (x y : Nat) : ma (sc σ i j v) x y = ma σ x y := Eq.trans rfl rfl
theorem ma_sj (σ : mS) (i j : Nat) (v : Int64) (x y : Nat) : ma (sj σ i j v) x y = ma σ x y := Eq.trans rfl rfl
theorem ma_sN (σ : mS) (i j : Nat) (v : Int64) (x y : Nat) : ma (sN σ i j v) x y = ma σ x y := Eq.trans rfl rfl
theorem ma_sB (σ : mS) (i j k : Nat) (v : Int64) (x y : Nat) : ma (sB σ i j k v) x y = ma σ x y := Eq.trans rfl rfl
theorem ma_sF (σ : mS) (i j k : Nat) (v : Int64) (x y : Nat) : ma (sF σ i j k v) x y = ma σ x y := Eq.trans rfl rfl
theorem ma_cB (σ : mS) (t b x y : Nat) : ma (cB σ t b) x y = ma σ x y := Eq.trans rfl rfl
theorem ma_cF (σ : mS) (t b x y : Nat) : ma (cF σ t b) x y = ma σ x y := Eq.trans rfl rfl
theorem mc_sc (σ : mS) (i j : Nat) (v : Bool) (x y : Nat) : mc (sc σ i j v) x y = if x = i ∧ y = j then v else mc σ x y := Eq.trans rfl rfl
theorem mc_sn (σ : mS) (i : Nat) (v : Nat) (x y : Nat) : mc (sn σ i v) x y = mc σ x y := Eq.trans rfl rfl
theorem mc_sz (σ : mS) (i : Nat) (v : Int32) (x y : Nat) : mc (sz σ i v) x y = mc σ x y := Eq.trans rfl rfl
theorem mc_sl (σ : mS) (i : Nat) (v : Int64) (x y : Nat) : mc (sl σ i v) x y = mc σ x y := Eq.trans rfl rfl
theorem mc_sb (σ : mS) (i j : Nat) (v : Nat) (x y : Nat) : mc (sb σ i j v) x y = mc σ x y := Eq.trans rfl rfl
theorem mc_sa (σ : mS) (i j : Nat) (v : Int32) (x y : Nat) : mc (sa σ i j v) x y = mc σ x y := Eq.trans rfl rfl
theorem mc_sj (σ : mS) (i j : Nat) (v : Int64) (x y : Nat) : mc (sj σ i j v) x y = mc σ x y := Eq.trans rfl rfl
theorem mc_sN (σ : mS) (i j : Nat) (v : Int64) (x y : Nat) : mc (sN σ i j v) x y = mc σ x y := Eq.trans rfl rfl
theorem mc_sB (σ : mS) (i j k : Nat) (v : Int64) (x y : Nat) : mc (sB σ i j k v) x y = mc σ x y := Eq.trans rfl rfl
theorem mc_sF (σ : mS) (i j k : Nat) (v : Int64) (x y : Nat) : mc (sF σ i j k v) x y = mc σ x y := Eq.trans rfl rfl
theorem mc_cB (σ : mS) (t b x y : Nat) : mc (cB σ t b) x y = mc σ x y := Eq.trans rfl rfl
theorem mc_cF (σ : mS) (t b x y : Nat) : mc (cF σ t b) x y = mc σ x y := Eq.trans rfl rfl
theorem mj_sj (σ : mS) (i j : Nat) (v : Int64) (x y : Nat) : mj (sj σ i j v) x y = if x = i ∧ y = j then v else mj σ x y := Eq.trans rfl rfl
theorem mj_sn (σ : mS) (i : Nat) (v : Nat) (x y : Nat) : mj (sn σ i v) x y = mj σ x y := Eq.trans rfl rfl
theorem mj_sz (σ : mS) (i : Nat) (v : Int32) (x y : Nat) : mj (sz σ i v) x y = mj σ x y := Eq.trans rfl rfl
theorem mj_sl (σ : mS) (i : Nat) (v : Int64) (x y : Nat) : mj (sl σ i v) x y = mj σ x y := Eq.trans rfl rfl
theorem mj_sb (σ : mS) (i j : Nat) (v : Nat) (x y : Nat) : mj (sb σ i j v) x y = mj σ x y := Eq.trans rfl rfl
theorem mj_sa (σ : mS) (i j : Nat) (v : Int32) (x y : Nat) : mj (sa σ i j v) x y = mj σ x y := Eq.trans rfl rfl
theorem mj_sc (σ : mS) (i j : Nat) (v : Bool) (x y : Nat) : mj (sc σ i j v) x y = mj σ x y := Eq.trans rfl rfl
theorem mj_sN (σ : mS) (i j : Nat) (v : Int64) (x y : Nat) : mj (sN σ i j v) x y = mj σ x y := Eq.trans rfl rfl
theorem mj_sB (σ : mS) (i j k : Nat) (v : Int64) (x y : Nat) : mj (sB σ i j k v) x y = mj σ x y := Eq.trans rfl rfl
theorem mj_sF (σ : mS) (i j k : Nat) (v : Int64) (x y : Nat) : mj (sF σ i j k v) x y = mj σ x y := Eq.trans rfl rfl
theorem mj_cB (σ : mS) (t b x y : Nat) : mj (cB σ t b) x y = mj σ x y := Eq.trans rfl rfl
theorem mj_cF (σ : mS) (t b x y : Nat) : mj (cF σ t b) x y = mj σ x y := Eq.trans rfl rfl
theorem mN_sN (σ : mS) (i j : Nat) (v : Int64) (x y : Nat) : mN (sN σ i j v) x y = if x = i ∧ y = j then v else mN σ x y := Eq.trans rfl rfl
theorem mN_sn (σ : mS) (i : Nat) (v : Nat) (x y : Nat) : mN (sn σ i v) x y = mN σ x y := Eq.trans rfl rfl
theorem mN_sz (σ : mS) (i : Nat) (v : Int32) (x y : Nat) : mN (sz σ i v) x y = mN σ x y := Eq.trans rfl rfl
theorem mN_sl (σ : mS) (i : Nat) (v : Int64) (x y : Nat) : mN (sl σ i v) x y = mN σ x y := Eq.trans rfl rfl
theorem mN_sb (σ : mS) (i j : Nat) (v : Nat) (x y : Nat) : mN (sb σ i j v) x y = mN σ x y := Eq.trans rfl rfl
theorem mN_sa (σ : mS) (i j : Nat) (v : Int32) (x y : Nat) : mN (sa σ i j v) x y = mN σ x y := Eq.trans rfl rfl
theorem mN_sc (σ : mS) (i j : Nat) (v : Bool) (x y : Nat) : mN (sc σ i j v) x y = mN σ x y := Eq.trans rfl rfl
theorem mN_sj (σ : mS) (i j : Nat) (v : Int64) (x y : Nat) : mN (sj σ i j v) x y = mN σ x y := Eq.trans rfl rfl
theorem mN_sB (σ : mS) (i j k : Nat) (v : Int64) (x y : Nat) : mN (sB σ i j k v) x y = mN σ x y := Eq.trans rfl rfl
theorem mN_sF (σ : mS) (i j k : Nat) (v : Int64) (x y : Nat) : mN (sF σ i j k v) x y = mN σ x y := Eq.trans rfl rfl
theorem mN_cB (σ : mS) (t b x y : Nat) : mN (cB σ t b) x y = mN σ x y := Eq.trans rfl rfl
theorem mN_cF (σ : mS) (t b x y : Nat) : mN (cF σ t b) x y = mN σ x y := Eq.trans rfl rfl
theorem mB_sB (σ : mS) (i j k : Nat) (v : Int64) (x y z : Nat) : mB (sB σ i j k v) x y z = if x = i ∧ y = j ∧ z = k then v else mB σ x y z := Eq.trans rfl rfl
theorem mB_sn (σ : mS) (i : Nat) (v : Nat) (x y z : Nat) : mB (sn σ i v) x y z = mB σ x y z := Eq.trans rfl rfl
theorem mB_sz (σ : mS) (i : Nat) (v : Int32) (x y z : Nat) : mB (sz σ i v) x y z = mB σ x y z := Eq.trans rfl rfl
theorem mB_sl (σ : mS) (i : Nat) (v : Int64) (x y z : Nat) : mB (sl σ i v) x y z = mB σ x y z := Eq.trans rfl rfl
theorem mB_sb (σ : mS) (i j : Nat) (v : Nat) (x y z : Nat) : mB (sb σ i j v) x y z = mB σ x y z := Eq.trans rfl rfl
theorem mB_sa (σ : mS) (i j : Nat) (v : Int32) (x y z : Nat) : mB (sa σ i j v) x y z = mB σ x y z := Eq.trans rfl rfl
theorem mB_sc (σ : mS) (i j : Nat) (v : Bool) (x y z : Nat) : mB (sc σ i j v) x y z = mB σ x y z := Eq.trans rfl rfl
theorem mB_sj (σ : mS) (i j : Nat) (v : Int64) (x y z : Nat) : mB (sj σ i j v) x y z = mB σ x y z := Eq.trans rfl rfl
theorem mB_sN (σ : mS) (i j : Nat) (v : Int64) (x y z : Nat) : mB (sN σ i j v) x y z = mB σ x y z := Eq.trans rfl rfl
theorem mB_sF (σ : mS) (i j k : Nat) (v : Int64) (x y z : Nat) : mB (sF σ i j k v) x y z = mB σ x y z := Eq.trans rfl rfl
theorem mB_cB (σ : mS) (t b x y z : Nat) : mB (cB σ t b) x y z = if x = t ∧ y = b then (if z < 5 then mN σ t z else mB σ x y z) else mB σ x y z := Eq.trans rfl rfl
theorem mB_cF (σ : mS) (t b x y z : Nat) : mB (cF σ t b) x y z = mB σ x y z := Eq.trans rfl rfl
theorem mF_sF (σ : mS) (i j k : Nat) (v : Int64) (x y z : Nat) : mF (sF σ i j k v) x y z = if x = i ∧ y = j ∧ z = k then v else mF σ x y z := Eq.trans rfl rfl
theorem mF_sn (σ : mS) (i : Nat) (v : Nat) (x y z : Nat) : mF (sn σ i v) x y z = mF σ x y z := Eq.trans rfl rfl
theorem mF_sz (σ : mS) (i : Nat) (v : Int32) (x y z : Nat) : mF (sz σ i v) x y z = mF σ x y z := Eq.trans rfl rfl
theorem mF_sl (σ : mS) (i : Nat) (v : Int64) (x y z : Nat) : mF (sl σ i v) x y z = mF σ x y z := Eq.trans rfl rfl
theorem mF_sb (σ : mS) (i j : Nat) (v : Nat) (x y z : Nat) : mF (sb σ i j v) x y z = mF σ x y z := Eq.trans rfl rfl
theorem mF_sa (σ : mS) (i j : Nat) (v : Int32) (x y z : Nat) : mF (sa σ i j v) x y z = mF σ x y z := Eq.trans rfl rfl
theorem mF_sc (σ : mS) (i j : Nat) (v : Bool) (x y z : Nat) : mF (sc σ i j v) x y z = mF σ x y z := Eq.trans rfl rfl
theorem mF_sj (σ : mS) (i j : Nat) (v : Int64) (x y z : Nat) : mF (sj σ i j v) x y z = mF σ x y z := Eq.trans rfl rfl
theorem mF_sN (σ : mS) (i j : Nat) (v : Int64) (x y z : Nat) : mF (sN σ i j v) x y z = mF σ x y z := Eq.trans rfl rfl
theorem mF_sB (σ : mS) (i j k : Nat) (v : Int64) (x y z : Nat) : mF (sB σ i j k v) x y z = mF σ x y z := Eq.trans rfl rfl
theorem mF_cB (σ : mS) (t b x y z : Nat) : mF (cB σ t b) x y z = mF σ x y z := Eq.trans rfl rfl
theorem mF_cF (σ : mS) (t b x y z : Nat) : mF (cF σ t b) x y z = if x = t ∧ y = b then (if z < 5 then mN σ t z else mF σ x y z) else mF σ x y z := Eq.trans rfl rfl
def gb (b : Bool) : Int32 := if b = true then 1 else 0
theorem gb_t : gb true = 1 := rfl
theorem gb_f : gb false = 0 := rfl
theorem gb_nar (b : Bool) : narrow .boolean (.int (gb b)) = .int (gb b) := by cases b <;> rfl
theorem gb_vp (b : Bool) : vp_nar .boolean (gb b) = gb b := by cases b <;> rfl
theorem gb_0 {b : Bool} : gb b = 0 ↔ b = false := by cases b <;> decide
theorem gb_1 {b : Bool} : gb b = 1 ↔ b = true := by cases b <;> decide
abbrev mA : Type := (Nat → Nat) × (Nat → Nat) × (Nat → Nat) × (Nat → Nat → Nat) × (Nat → Nat) × (Nat → Nat → Nat)
def mFs (A : mA) (σ : mS) : List Value := [.int (mz σ 0), .int (mz σ 1), .int (mz σ 2), .int (mz σ 3), .int (mz σ 4), .int (nI (mn σ 5)), .ref (A.1 6), .int (nI (mn σ 7)), .int (nI (mn σ 8)), .ref (A.1 9), .ref (A.1 10), .int (nI (mn σ 11)), .ref (A.1 12), .int (nI (mn σ 13)), .int (nI (mn σ 14)), .int (nI (mn σ 15)), .ref (A.1 16), .ref (A.1 17), .ref (A.1 18), .ref (A.1 19), .ref (A.1 20), .ref (A.1 21), .ref (A.1 22), .ref (A.1 23), .ref (A.1 24), .ref (A.1 25), .ref (A.1 26), .ref (A.1 27), .ref (A.1 28), .ref (A.1 29), .ref (A.1 30), .ref (A.1 31), .ref (A.1 32), .ref (A.1 33), .int (nI (mn σ 34)), .ref (A.1 35), .int (nI (mn σ 36)), .ref (A.1 37), .ref (A.1 38), .int (mz σ 39), .long (ml σ 40), .long (ml σ 41), .long (ml σ 42), .int (nI (mn σ 43))]
/-- the cell of a region of the reference: its address, what it holds -/
def mCk (K : gK) (A : mA) (σ : mS) (t : Nat) : Option (Nat × va_E) := match t with
  | 6 => some (A.1 6, .inl (kA K 0, 4, .inl (fun j => ma σ 6 j)))
  | 9 => some (A.1 9, .inl (kA K 0, 8, .inl (fun j => nI (mb σ 9 j))))
  | 10 => some (A.1 10, .inl (kA K 0, 8, .inl (fun j => ma σ 10 j)))
  | 12 => some (A.1 12, .inl (kA K 0, 8, .inl (fun j => ma σ 12 j)))
  | 16 => some (A.1 16, .inl (kA K 2, 40, .inl (fun j => gb (mc σ 16 j))))
  | 17 => some (A.1 17, .inl (kA K 2, 40, .inl (fun j => gb (mc σ 17 j))))
  | 18 => some (A.1 18, .inl (kA K 2, 40, .inl (fun j => gb (mc σ 18 j))))
  | 19 => some (A.1 19, .inl (kA K 2, 40, .inl (fun j => gb (mc σ 19 j))))
  | 20 => some (A.1 20, .inl (kA K 0, 40, .inl (fun j => nI (mb σ 20 j))))
  | 21 => some (A.1 21, .inl (kA K 0, 40, .inl (fun j => nI (mb σ 21 j))))
  | 22 => some (A.1 22, .inl (kA K 0, 40, .inl (fun j => nI (mb σ 22 j))))
  | 23 => some (A.1 23, .inl (kA K 0, 40, .inl (fun j => nI (mb σ 23 j))))
  | 24 => some (A.1 24, .inl (kA K 0, 40, .inl (fun j => nI (mb σ 24 j))))
  | 25 => some (A.1 25, .inl (kA K 5, 40, .inr (.inr (.inr (.inr (fun j => some (A.2.1 j)))))))
  | 26 => some (A.1 26, .inl (kA K 6, 40, .inr (.inr (.inr (.inr (fun j => some (A.2.2.1 j)))))))
  | 27 => some (A.1 27, .inl (kA K 6, 40, .inr (.inr (.inr (.inr (fun j => some (A.2.2.2.2.1 j)))))))
  | 28 => some (A.1 28, .inl (kA K 1, 40, .inr (.inl (fun j => mj σ 28 j))))
  | 29 => some (A.1 29, .inl (kA K 1, 40, .inr (.inl (fun j => mj σ 29 j))))
  | 30 => some (A.1 30, .inl (kA K 1, 40, .inr (.inl (fun j => mj σ 30 j))))
  | 31 => some (A.1 31, .inl (kA K 1, 40, .inr (.inl (fun j => mj σ 31 j))))
  | 32 => some (A.1 32, .inl (kA K 1, 40, .inr (.inl (fun j => mj σ 32 j))))
  | 33 => some (A.1 33, .inl (kA K 0, 8, .inl (fun j => nI (mb σ 33 j))))
  | 35 => some (A.1 35, .inl (kA K 0, 6, .inl (fun j => nI (mb σ 35 j))))
  | 37 => some (A.1 37, .inl (kA K 0, 6, .inl (fun j => ma σ 37 j)))
  | 38 => some (A.1 38, .inl (kA K 0, 6, .inl (fun j => ma σ 38 j)))
  | _ => none
def mCr (K : gK) (A : mA) (σ : mS) (t : Nat) : Option (Nat × va_E) :=
  if t < 140 then some (A.2.1 (t - 100), .inl (kA K 1, 5, .inr (.inl (fun v => mN σ (t - 100) v))))
  else if t < 200 then none
  else if t < 240 then some (A.2.2.1 (t - 200), .inl (kA K 5, 64, .inr (.inr (.inr (.inr (fun b => some (A.2.2.2.1 (t - 200) b)))))))
  else if t < 300 then none
  else if t < 340 then some (A.2.2.2.2.1 (t - 300), .inl (kA K 5, 64, .inr (.inr (.inr (.inr (fun b => some (A.2.2.2.2.2 (t - 300) b)))))))
  else if t < 1000 then none
  else if t < 3560 then some (A.2.2.2.1 ((t - 1000) / 64) ((t - 1000) % 64), .inl (kA K 1, 5, .inr (.inl (fun v => mB σ ((t - 1000) / 64) ((t - 1000) % 64) v))))
  else if t < 4000 then none
  else if t < 6560 then some (A.2.2.2.2.2 ((t - 4000) / 64) ((t - 4000) % 64), .inl (kA K 1, 5, .inr (.inl (fun v => mF σ ((t - 4000) / 64) ((t - 4000) % 64) v))))
  else none
def mC (K : gK) (mo : Nat) (A : mA) (σ : mS) (t : Nat) : Option (Nat × va_E) :=
  if t = 0 then some (mo, .inr (1, mFs A σ)) else if t < 100 then mCk K A σ t else mCr K A σ t
/-- the reference's picture -/
def mR (K : gK) (mo : Nat) (A : mA) (σ : mS) (G : gT) : Prop := ∀ (t a : Nat) (e : va_E), mC K mo A σ t = some (a, e) → G a = some (t, e)
def mT : Nat → Prop := fun t => t < 10000
/-- .. in a heap, since G0 -/
def mH (K : gK) (mo : Nat) (A : mA) (σ : mS) (G0 : gT) (H : Heap) : Prop := ∃ G : gT, mR K mo A σ G ∧ gH K G H ∧ gF mT G0 G
theorem mR.upd {K : gK} {mo : Nat} {A : mA} {σ σ1 : mS} {G : gT} (h : mR K mo A σ G) {t0 a : Nat} {e0 e1 : va_E} (h0 : mC K mo A σ t0 = some (a, e0)) (h1 : mC K mo A σ1 t0 = some (a, e1)) (hk : ∀ t : Nat, t ≠ t0 → mC K mo A σ1 t = mC K mo A σ t) : mR K mo A σ1 (gU G a t0 e1) := by
  intro t b e hb
  by_cases ht : t = t0
  · subst ht
    rw [h1] at hb
    cases hb
    exact gU_self
  · rw [hk t ht] at hb
    have g1 := h t b e hb
    have g0 := h t0 a e0 h0
    rw [gU_ne (g_ne_t g1 g0 ht)]
    exact g1
theorem mR.fr {K : gK} {mo : Nat} {A : mA} {σ : mS} {G G1 : gT} {S : Nat → Prop} (h : mR K mo A σ G) (hF : gF S G G1) (hS : ∀ t, t < 10000 → ¬ S t) : mR K mo A σ G1 := by
  intro t a e ht
  refine hF.1 a t e (h t a e ht) (hS t ?_)
  unfold mC at ht
  split at ht
  · omega
  · split at ht
    · omega
    · unfold mCr at ht
      (repeat' split at ht) <;> first | omega | cases ht
theorem mC_row {K : gK} {mo : Nat} {A : mA} {σ : mS} {t : Nat} (ht : t < 40) : mC K mo A σ (100 + t) = some (A.2.1 t, .inl (kA K 1, 5, .inr (.inl (fun v => mN σ t v)))) := by
  unfold mC mCr
  rw [if_neg (by omega), if_neg (by omega), if_pos (by omega), Nat.add_sub_cancel_left]
theorem mC_b1 {K : gK} {mo : Nat} {A : mA} {σ : mS} {t : Nat} (ht : t < 40) : mC K mo A σ (200 + t) = some (A.2.2.1 t, .inl (kA K 5, 64, .inr (.inr (.inr (.inr (fun b => some (A.2.2.2.1 t b))))))) := by
  unfold mC mCr
  rw [if_neg (by omega), if_neg (by omega), if_neg (by omega), if_neg (by omega), if_pos (by omega), Nat.add_sub_cancel_left]
theorem mC_f1 {K : gK} {mo : Nat} {A : mA} {σ : mS} {t : Nat} (ht : t < 40) : mC K mo A σ (300 + t) = some (A.2.2.2.2.1 t, .inl (kA K 5, 64, .inr (.inr (.inr (.inr (fun b => some (A.2.2.2.2.2 t b))))))) := by
  unfold mC mCr
  rw [if_neg (by omega), if_neg (by omega), if_neg (by omega), if_neg (by omega), if_neg (by omega), if_neg (by omega), if_pos (by omega), Nat.add_sub_cancel_left]
theorem mC_b2 {K : gK} {mo : Nat} {A : mA} {σ : mS} {t b : Nat} (ht : t < 40) (hb : b < 64) : mC K mo A σ (1000 + (64 * t + b)) = some (A.2.2.2.1 t b, .inl (kA K 1, 5, .inr (.inl (fun v => mB σ t b v)))) := by
  unfold mC mCr
  rw [if_neg (by omega), if_neg (by omega), if_neg (by omega), if_neg (by omega), if_neg (by omega), if_neg (by omega), if_neg (by omega), if_neg (by omega), if_pos (by omega), Nat.add_sub_cancel_left, show (64 * t + b) / 64 = t by omega, show (64 * t + b) % 64 = b by omega]
theorem mC_f2 {K : gK} {mo : Nat} {A : mA} {σ : mS} {t b : Nat} (ht : t < 40) (hb : b < 64) : mC K mo A σ (4000 + (64 * t + b)) = some (A.2.2.2.2.2 t b, .inl (kA K 1, 5, .inr (.inl (fun v => mF σ t b v)))) := by
  unfold mC mCr
  rw [if_neg (by omega), if_neg (by omega), if_neg (by omega), if_neg (by omega), if_neg (by omega), if_neg (by omega), if_neg (by omega), if_neg (by omega), if_neg (by omega), if_neg (by omega), if_pos (by omega), Nat.add_sub_cancel_left, show (64 * t + b) / 64 = t by omega, show (64 * t + b) % 64 = b by omega]
theorem mCr_k {K : gK} {A : mA} {σ σ1 : mS} {t : Nat} (hN : σ1.2.2.2.2.2.2.2 = σ.2.2.2.2.2.2.2) : mCr K A σ1 t = mCr K A σ t := by
  have e1 : mN σ1 = mN σ := by funext i j; unfold mN; rw [hN]
  have e2 : mB σ1 = mB σ := by funext i j k; unfold mB; rw [hN]
  have e3 : mF σ1 = mF σ := by funext i j k; unfold mF; rw [hN]
  unfold mCr
  rw [e1, e2, e3]
theorem mC_fld {K : gK} {mo : Nat} {A : mA} {σ σ1 : mS} (h : σ1.2.2.2 = σ.2.2.2) (t : Nat) (ht : t ≠ 0) : mC K mo A σ1 t = mC K mo A σ t := by
  have e1 : mb σ1 = mb σ := by funext i j; unfold mb; rw [h]
  have e2 : ma σ1 = ma σ := by funext i j; unfold ma; rw [h]
  have e3 : mc σ1 = mc σ := by funext i j; unfold mc; rw [h]
  have e4 : mj σ1 = mj σ := by funext i j; unfold mj; rw [h]
  unfold mC
  rw [if_neg ht, if_neg ht, mCr_k (σ := σ) (σ1 := σ1) (by rw [h])]
  unfold mCk
  rw [e1, e2, e3, e4]
  try rfl
theorem mC_sb {K : gK} {mo : Nat} {A : mA} {σ : mS} {k j : Nat} {v : Nat} (t : Nat) (ht : t ≠ k) : mC K mo A (sb σ k j v) t = mC K mo A σ t := by
  unfold mC
  split
  · rfl
  · split
    · unfold mCk
      split <;> first | rfl | (simp only [mb_sb]; simp only [ne_eq, ht, false_and, if_false]; done) | (simp [mb_sb, ht]; rfl) | simp [mb_sb, ht]
    · rfl
theorem mC_sa {K : gK} {mo : Nat} {A : mA} {σ : mS} {k j : Nat} {v : Int32} (t : Nat) (ht : t ≠ k) : mC K mo A (sa σ k j v) t = mC K mo A σ t := by
  unfold mC
  split
  · rfl
  · split
    · unfold mCk
      split <;> first | rfl | (simp only [ma_sa]; simp only [ne_eq, ht, false_and, if_false]; done) | (simp [ma_sa, ht]; rfl) | simp [ma_sa, ht]
    · rfl
theorem mC_sc {K : gK} {mo : Nat} {A : mA} {σ : mS} {k j : Nat} {v : Bool} (t : Nat) (ht : t ≠ k) : mC K mo A (sc σ k j v) t = mC K mo A σ t := by
  unfold mC
  split
  · rfl
  · split
    · unfold mCk
      split <;> first | rfl | (simp only [mc_sc]; simp only [ne_eq, ht, false_and, if_false]; done) | (simp [mc_sc, ht]; rfl) | simp [mc_sc, ht]
    · rfl
theorem mC_sj {K : gK} {mo : Nat} {A : mA} {σ : mS} {k j : Nat} {v : Int64} (t : Nat) (ht : t ≠ k) : mC K mo A (sj σ k j v) t = mC K mo A σ t := by
  unfold mC
  split
  · rfl
  · split
    · unfold mCk
      split <;> first | rfl | (simp only [mj_sj]; simp only [ne_eq, ht, false_and, if_false]; done) | (simp [mj_sj, ht]; rfl) | simp [mj_sj, ht]
    · rfl
theorem mC_sN {K : gK} {mo : Nat} {A : mA} {σ : mS} {t0 v0 : Nat} {x : Int64} (t : Nat) (ht : t ≠ 100 + t0) : mC K mo A (sN σ t0 v0 x) t = mC K mo A σ t := by
  unfold mC
  split
  · rfl
  · split
    · rfl
    · unfold mCr
      split
      · have hne : ¬ (t - 100 = t0) := by omega
        simp only [mN_sN, hne, false_and, if_false]
      · rfl
theorem mC_cB {K : gK} {mo : Nat} {A : mA} {σ : mS} {t0 b0 : Nat} (h0 : b0 < 64) (t : Nat) (ht : t ≠ 1000 + (64 * t0 + b0)) : mC K mo A (cB σ t0 b0) t = mC K mo A σ t := by
  unfold mC
  split
  · rfl
  · split
    · rfl
    · unfold mCr
      split
      · rfl
      · split
        · rfl
        · split
          · rfl
          · split
            · rfl
            · split
              · rfl
              · split
                · rfl
                · split
                  · have hne : ¬ ((t - 1000) / 64 = t0 ∧ (t - 1000) % 64 = b0) := by omega
                    simp only [mB_cB, hne, if_false]
                  · rfl
theorem mC_cF {K : gK} {mo : Nat} {A : mA} {σ : mS} {t0 b0 : Nat} (h0 : b0 < 64) (t : Nat) (ht : t ≠ 4000 + (64 * t0 + b0)) : mC K mo A (cF σ t0 b0) t = mC K mo A σ t := by
  unfold mC
  split
  · rfl
  · split
    · rfl
    · unfold mCr
      split
      · rfl
      · split
        · rfl
        · split
          · rfl
          · split
            · rfl
            · split
              · rfl
              · split
                · rfl
                · split
                  · rfl
                  · split
                    · rfl
                    · split
                      · have hne : ¬ ((t - 4000) / 64 = t0 ∧ (t - 4000) % 64 = b0) := by omega
                        simp only [mF_cF, hne, if_false]
                      · rfl
theorem mR.put {K : gK} {mo : Nat} {A : mA} {σ σ1 : mS} {G G0 : gT} {H1 : Heap} (hR : mR K mo A σ G) (hF : gF mT G0 G) {t0 a : Nat} {x0 : ClassId × vp_A} {e1 : va_E} (h0 : mC K mo A σ t0 = some (a, .inl x0)) (h1 : mC K mo A σ1 t0 = some (a, e1)) (hk : ∀ t : Nat, t ≠ t0 → mC K mo A σ1 t = mC K mo A σ t) (ht : t0 < 10000) (hG : gH K (gU G a t0 e1) H1) : mH K mo A σ1 G0 H1 :=
  ⟨_, hR.upd h0 h1 hk, hG, hF.trans (gF.putA (hR t0 a _ h0) ht)⟩
section MR
variable {p : Program} {l : Launch} {e : Env} {R : Room} {s : State} {m : MethodId} {args : Array Value} {below : List Frame} {meth : Method} {c : Code} {H : Heap} {locs : List Loc} {cells slots : Nat} {Q : State → Prop}
variable {cc : ByteArray} {pc : Nat} {ls : Array Slot} {rest st : List Value} {K : gK} {nL : Nat} {G0 : gT} {own : String} {mo : Nat} {A : mA} {σ : mS} {L : List (Nat × Value)}
theorem m_ldb (X : gC K p s m args meth c cc nL own) (hM : mH K mo A σ G0 H) (k n : Nat) (hc : mC K mo A σ k = some (A.1 k, .inl (kA K 0, n, .inl (fun j => nI (mb σ k j))))) {i : Int32} {j : Nat} (hi : i = nI j) (hj : j < n) (hn : n ≤ 1000) (hdg : decode cc pc = .ok (.iaload, 1))
    (kk : W p l e R s m args below meth c H locs cells slots Q (F0 m (pc + 1) ls (.int (nI (mb σ k j)) :: rest))) : W p l e R s m args below meth c H locs cells slots Q (F0 m pc ls (.int i :: .ref (A.1 k) :: rest)) := by
  obtain ⟨G, hR, hG, hF⟩ := hM
  exact g_iald X hG (hR k _ _ hc) hi hj (by omega) hdg kk
theorem m_lda (X : gC K p s m args meth c cc nL own) (hM : mH K mo A σ G0 H) (k n : Nat) (hc : mC K mo A σ k = some (A.1 k, .inl (kA K 0, n, .inl (fun j => ma σ k j)))) {i : Int32} {j : Nat} (hi : i = nI j) (hj : j < n) (hn : n ≤ 1000) (hdg : decode cc pc = .ok (.iaload, 1))
    (kk : W p l e R s m args below meth c H locs cells slots Q (F0 m (pc + 1) ls (.int (ma σ k j) :: rest))) : W p l e R s m args below meth c H locs cells slots Q (F0 m pc ls (.int i :: .ref (A.1 k) :: rest)) := by
  obtain ⟨G, hR, hG, hF⟩ := hM
  exact g_iald X hG (hR k _ _ hc) hi hj (by omega) hdg kk
theorem m_ldc (X : gC K p s m args meth c cc nL own) (hM : mH K mo A σ G0 H) (k n : Nat) (hc : mC K mo A σ k = some (A.1 k, .inl (kA K 2, n, .inl (fun j => gb (mc σ k j))))) {i : Int32} {j : Nat} (hi : i = nI j) (hj : j < n) (hn : n ≤ 1000) (hdg : decode cc pc = .ok (.baload, 1))
    (kk : W p l e R s m args below meth c H locs cells slots Q (F0 m (pc + 1) ls (.int (gb (mc σ k j)) :: rest))) : W p l e R s m args below meth c H locs cells slots Q (F0 m pc ls (.int i :: .ref (A.1 k) :: rest)) := by
  obtain ⟨G, hR, hG, hF⟩ := hM
  exact g_zald X hG (hR k _ _ hc) hi hj (by omega) hdg kk
theorem m_ldj (X : gC K p s m args meth c cc nL own) (hM : mH K mo A σ G0 H) (k n : Nat) (hc : mC K mo A σ k = some (A.1 k, .inl (kA K 1, n, .inr (.inl (fun j => mj σ k j))))) {i : Int32} {j : Nat} (hi : i = nI j) (hj : j < n) (hn : n ≤ 1000) (hdg : decode cc pc = .ok (.laload, 1))
    (kk : W p l e R s m args below meth c H locs cells slots Q (F0 m (pc + 1) ls (.long (mj σ k j) :: rest))) : W p l e R s m args below meth c H locs cells slots Q (F0 m pc ls (.int i :: .ref (A.1 k) :: rest)) := by
  obtain ⟨G, hR, hG, hF⟩ := hM
  exact g_lald X hG (hR k _ _ hc) hi hj (by omega) hdg kk
theorem m_stb (X : gC K p s m args meth c cc nL own) (hM : mH K mo A σ G0 H) (hS : va_S (gA K) s.heap H locs) (k n : Nat) (hc : ∀ σ : mS, mC K mo A σ k = some (A.1 k, .inl (kA K 0, n, .inl (fun j => nI (mb σ k j))))) {i x : Int32} {j v : Nat} (hi : i = nI j) (hj : j < n) (hn : n ≤ 1000) (hk : k < 10000) (hx : x = nI v) (hdg : decode cc pc = .ok (.iastore, 1))
    (kk : ∀ (H1 : Heap) (locs1 : List Loc), mH K mo A (sb σ k j v) G0 H1 → va_S (gA K) s.heap H1 locs1 → W p l e R s m args below meth c H1 locs1 cells slots Q (F0 m (pc + 1) ls rest)) : W p l e R s m args below meth c H locs cells slots Q (F0 m pc ls (.int x :: .int i :: .ref (A.1 k) :: rest)) := by
  obtain ⟨G, hR, hG, hF⟩ := hM
  have he : upd (fun j => nI (mb σ k j)) j x = fun y => nI (mb (sb σ k j v) k y) := by
    funext y
    by_cases hy : y = j <;> simp [upd, mb_sb, hy, hx]
  exact g_iast X hG hS (hR k _ _ (hc σ)) hi hj (by omega) hdg (fun H1 locs1 hG1 hS1 => kk H1 locs1 (hR.put hF (hc σ) (hc _) (fun t ht => mC_sb t ht) hk (by rw [← he]; exact hG1)) hS1)
theorem m_sta (X : gC K p s m args meth c cc nL own) (hM : mH K mo A σ G0 H) (hS : va_S (gA K) s.heap H locs) (k n : Nat) (hc : ∀ σ : mS, mC K mo A σ k = some (A.1 k, .inl (kA K 0, n, .inl (fun j => ma σ k j)))) {i x : Int32} {j : Nat} (hi : i = nI j) (hj : j < n) (hn : n ≤ 1000) (hk : k < 10000) (hdg : decode cc pc = .ok (.iastore, 1))
    (kk : ∀ (H1 : Heap) (locs1 : List Loc), mH K mo A (sa σ k j x) G0 H1 → va_S (gA K) s.heap H1 locs1 → W p l e R s m args below meth c H1 locs1 cells slots Q (F0 m (pc + 1) ls rest)) : W p l e R s m args below meth c H locs cells slots Q (F0 m pc ls (.int x :: .int i :: .ref (A.1 k) :: rest)) := by
  obtain ⟨G, hR, hG, hF⟩ := hM
  have he : upd (fun j => ma σ k j) j x = fun y => ma (sa σ k j x) k y := by
    funext y
    by_cases hy : y = j <;> simp [upd, ma_sa, hy]
  exact g_iast X hG hS (hR k _ _ (hc σ)) hi hj (by omega) hdg (fun H1 locs1 hG1 hS1 => kk H1 locs1 (hR.put hF (hc σ) (hc _) (fun t ht => mC_sa t ht) hk (by rw [← he]; exact hG1)) hS1)
theorem m_stc (X : gC K p s m args meth c cc nL own) (hM : mH K mo A σ G0 H) (hS : va_S (gA K) s.heap H locs) (k n : Nat) (hc : ∀ σ : mS, mC K mo A σ k = some (A.1 k, .inl (kA K 2, n, .inl (fun j => gb (mc σ k j))))) {i x : Int32} {j : Nat} {v : Bool} (hi : i = nI j) (hj : j < n) (hn : n ≤ 1000) (hk : k < 10000) (hx : x = gb v) (hdg : decode cc pc = .ok (.bastore, 1))
    (kk : ∀ (H1 : Heap) (locs1 : List Loc), mH K mo A (sc σ k j v) G0 H1 → va_S (gA K) s.heap H1 locs1 → W p l e R s m args below meth c H1 locs1 cells slots Q (F0 m (pc + 1) ls rest)) : W p l e R s m args below meth c H locs cells slots Q (F0 m pc ls (.int x :: .int i :: .ref (A.1 k) :: rest)) := by
  obtain ⟨G, hR, hG, hF⟩ := hM
  have he : upd (fun j => gb (mc σ k j)) j x = fun y => gb (mc (sc σ k j v) k y) := by
    funext y
    by_cases hy : y = j <;> simp [upd, mc_sc, hy, hx]
  exact g_zast X hG hS (hR k _ _ (hc σ)) hi hj (by omega) (by rw [hx]; exact gb_vp v) hdg (fun H1 locs1 hG1 hS1 => kk H1 locs1 (hR.put hF (hc σ) (hc _) (fun t ht => mC_sc t ht) hk (by rw [← he]; exact hG1)) hS1)
theorem m_stj (X : gC K p s m args meth c cc nL own) (hM : mH K mo A σ G0 H) (hS : va_S (gA K) s.heap H locs) (k n : Nat) (hc : ∀ σ : mS, mC K mo A σ k = some (A.1 k, .inl (kA K 1, n, .inr (.inl (fun j => mj σ k j))))) {i : Int32} {x : Int64} {j : Nat} (hi : i = nI j) (hj : j < n) (hn : n ≤ 1000) (hk : k < 10000) (hdg : decode cc pc = .ok (.lastore, 1))
    (kk : ∀ (H1 : Heap) (locs1 : List Loc), mH K mo A (sj σ k j x) G0 H1 → va_S (gA K) s.heap H1 locs1 → W p l e R s m args below meth c H1 locs1 cells slots Q (F0 m (pc + 1) ls rest)) : W p l e R s m args below meth c H locs cells slots Q (F0 m pc ls (.long x :: .int i :: .ref (A.1 k) :: rest)) := by
  obtain ⟨G, hR, hG, hF⟩ := hM
  have he : vp_updL (fun j => mj σ k j) j x = fun y => mj (sj σ k j x) k y := by
    funext y
    by_cases hy : y = j <;> simp [vp_updL, mj_sj, hy]
  exact g_last X hG hS (hR k _ _ (hc σ)) hi hj (by omega) hdg (fun H1 locs1 hG1 hS1 => kk H1 locs1 (hR.put hF (hc σ) (hc _) (fun t ht => mC_sj t ht) hk (by rw [← he]; exact hG1)) hS1)
theorem m_aaN (X : gC K p s m args meth c cc nL own) (hM : mH K mo A σ G0 H) {i : Int32} {t : Nat} (hi : i = nI t) (ht : t < 40) (hdg : decode cc pc = .ok (.aaload, 1))
    (kk : W p l e R s m args below meth c H locs cells slots Q (F0 m (pc + 1) ls (.ref (A.2.1 t) :: rest))) : W p l e R s m args below meth c H locs cells slots Q (F0 m pc ls (.int i :: .ref (A.1 25) :: rest)) := by
  obtain ⟨G, hR, hG, hF⟩ := hM
  exact g_aald X hG 5 rfl rfl (hR 25 _ _ rfl) hi ht (by omega) rfl hdg kk
theorem m_ldN (X : gC K p s m args meth c cc nL own) (hM : mH K mo A σ G0 H) {i : Int32} {t v : Nat} (hi : i = nI v) (ht : t < 40) (hv : v < 5) (hdg : decode cc pc = .ok (.laload, 1))
    (kk : W p l e R s m args below meth c H locs cells slots Q (F0 m (pc + 1) ls (.long (mN σ t v) :: rest))) : W p l e R s m args below meth c H locs cells slots Q (F0 m pc ls (.int i :: .ref (A.2.1 t) :: rest)) := by
  obtain ⟨G, hR, hG, hF⟩ := hM
  exact g_lald X hG (hR _ _ _ (mC_row ht)) hi hv (by omega) hdg kk
theorem m_stN (X : gC K p s m args meth c cc nL own) (hM : mH K mo A σ G0 H) (hS : va_S (gA K) s.heap H locs) {i : Int32} {x : Int64} {t v : Nat} (hi : i = nI v) (ht : t < 40) (hv : v < 5) (hdg : decode cc pc = .ok (.lastore, 1))
    (kk : ∀ (H1 : Heap) (locs1 : List Loc), mH K mo A (sN σ t v x) G0 H1 → va_S (gA K) s.heap H1 locs1 → W p l e R s m args below meth c H1 locs1 cells slots Q (F0 m (pc + 1) ls rest)) : W p l e R s m args below meth c H locs cells slots Q (F0 m pc ls (.long x :: .int i :: .ref (A.2.1 t) :: rest)) := by
  obtain ⟨G, hR, hG, hF⟩ := hM
  have he : vp_updL (fun j => mN σ t j) v x = fun y => mN (sN σ t v x) t y := by
    funext y
    by_cases hy : y = v <;> simp [vp_updL, mN_sN, hy]
  exact g_last X hG hS (hR _ _ _ (mC_row ht)) hi hv (by omega) hdg (fun H1 locs1 hG1 hS1 => kk H1 locs1 (hR.put hF (mC_row ht) (mC_row ht) (fun t ht => mC_sN t ht) (by omega) (by rw [← he]; exact hG1)) hS1)
theorem m_aaB1 (X : gC K p s m args meth c cc nL own) (hM : mH K mo A σ G0 H) {i : Int32} {t : Nat} (hi : i = nI t) (ht : t < 40) (hdg : decode cc pc = .ok (.aaload, 1))
    (kk : W p l e R s m args below meth c H locs cells slots Q (F0 m (pc + 1) ls (.ref (A.2.2.1 t) :: rest))) : W p l e R s m args below meth c H locs cells slots Q (F0 m pc ls (.int i :: .ref (A.1 26) :: rest)) := by
  obtain ⟨G, hR, hG, hF⟩ := hM
  exact g_aald X hG 6 rfl rfl (hR 26 _ _ rfl) hi ht (by omega) rfl hdg kk
theorem m_aaB2 (X : gC K p s m args meth c cc nL own) (hM : mH K mo A σ G0 H) {i : Int32} {t b : Nat} (hi : i = nI b) (ht : t < 40) (hb : b < 64) (hdg : decode cc pc = .ok (.aaload, 1))
    (kk : W p l e R s m args below meth c H locs cells slots Q (F0 m (pc + 1) ls (.ref (A.2.2.2.1 t b) :: rest))) : W p l e R s m args below meth c H locs cells slots Q (F0 m pc ls (.int i :: .ref (A.2.2.1 t) :: rest)) := by
  obtain ⟨G, hR, hG, hF⟩ := hM
  exact g_aald X hG 5 rfl rfl (hR _ _ _ (mC_b1 ht)) hi hb (by omega) rfl hdg kk
theorem m_ldB (X : gC K p s m args meth c cc nL own) (hM : mH K mo A σ G0 H) {i : Int32} {t b v : Nat} (hi : i = nI v) (ht : t < 40) (hb : b < 64) (hv : v < 5) (hdg : decode cc pc = .ok (.laload, 1))
    (kk : W p l e R s m args below meth c H locs cells slots Q (F0 m (pc + 1) ls (.long (mB σ t b v) :: rest))) : W p l e R s m args below meth c H locs cells slots Q (F0 m pc ls (.int i :: .ref (A.2.2.2.1 t b) :: rest)) := by
  obtain ⟨G, hR, hG, hF⟩ := hM
  exact g_lald X hG (hR _ _ _ (mC_b2 ht hb)) hi hv (by omega) hdg kk
theorem m_aaF1 (X : gC K p s m args meth c cc nL own) (hM : mH K mo A σ G0 H) {i : Int32} {t : Nat} (hi : i = nI t) (ht : t < 40) (hdg : decode cc pc = .ok (.aaload, 1))
    (kk : W p l e R s m args below meth c H locs cells slots Q (F0 m (pc + 1) ls (.ref (A.2.2.2.2.1 t) :: rest))) : W p l e R s m args below meth c H locs cells slots Q (F0 m pc ls (.int i :: .ref (A.1 27) :: rest)) := by
  obtain ⟨G, hR, hG, hF⟩ := hM
  exact g_aald X hG 6 rfl rfl (hR 27 _ _ rfl) hi ht (by omega) rfl hdg kk
theorem m_aaF2 (X : gC K p s m args meth c cc nL own) (hM : mH K mo A σ G0 H) {i : Int32} {t b : Nat} (hi : i = nI b) (ht : t < 40) (hb : b < 64) (hdg : decode cc pc = .ok (.aaload, 1))
    (kk : W p l e R s m args below meth c H locs cells slots Q (F0 m (pc + 1) ls (.ref (A.2.2.2.2.2 t b) :: rest))) : W p l e R s m args below meth c H locs cells slots Q (F0 m pc ls (.int i :: .ref (A.2.2.2.2.1 t) :: rest)) := by
  obtain ⟨G, hR, hG, hF⟩ := hM
  exact g_aald X hG 5 rfl rfl (hR _ _ _ (mC_f1 ht)) hi hb (by omega) rfl hdg kk
theorem m_ldF (X : gC K p s m args meth c cc nL own) (hM : mH K mo A σ G0 H) {i : Int32} {t b v : Nat} (hi : i = nI v) (ht : t < 40) (hb : b < 64) (hv : v < 5) (hdg : decode cc pc = .ok (.laload, 1))
    (kk : W p l e R s m args below meth c H locs cells slots Q (F0 m (pc + 1) ls (.long (mF σ t b v) :: rest))) : W p l e R s m args below meth c H locs cells slots Q (F0 m pc ls (.int i :: .ref (A.2.2.2.2.2 t b) :: rest)) := by
  obtain ⟨G, hR, hG, hF⟩ := hM
  exact g_lald X hG (hR _ _ _ (mC_f2 ht hb)) hi hv (by omega) hdg kk
/-- a contract of the reference's: the answer, the new state; it makes no cell -/
def mMet (l : Launch) (K : gK) (mo : Nat) (A : mA) (y : MethodName) (cc : ByteArray) (nL : Nat) (ret : Option FieldType) (f o : Nat) (As : List Value) (σ : mS) (v : Option Value) (σ1 : mS) : Prop := ∀ G : gT, mR K mo A σ G → gMet l K y cc nL ret f o 0 0 (.ref mo :: As) G (fun w G1 => w = v ∧ mR K mo A σ1 G1 ∧ gF mT G G1)
variable {y : MethodName} {bytes : ByteArray} {maxL index f o : Nat} {ret : Option FieldType} {As : List Value} {v : Option Value} {σ1 : mS}
theorem m_call (X : gC K p s m args meth c cc nL own) (hC : mMet l K mo A y bytes maxL ret f o As σ v σ1) {n : Nat} (hd : gPar y n) (hn : As.length = n) (h1 : Cond.methodLink own index y ∈ lw_all) (h2 : Cond.instanceMethod y ∈ lw_all) (h3 : Cond.selects "KalmanQuayModel" y y ∈ lw_all) (h4 : Cond.initialized y.cls ∈ lw_all) (h5 : Cond.code y bytes maxL ret ∈ lw_all)
    (hM : mH K mo A σ G0 H) (hS : va_S (gA K) s.heap H locs) (hl : lv_has ls nL L) (hR : f + 1 ≤ R.frames ∧ 24 + (maxL + 11) + o ≤ R.locals) (hf : cells ≤ R.cells ∧ slots ≤ R.slots) (hroom : (rest.map fun v => v.category).sum ≤ 24) (hst : st = As.reverse ++ .ref mo :: rest) (hdg : decode cc pc = .ok (.invokevirtual index, 3))
    (kk : ∀ (H1 : Heap) (locs1 : List Loc), mH K mo A σ1 G0 H1 → va_S (gA K) s.heap H1 locs1 → W p l e R s m args below meth c H1 locs1 cells slots Q (F0 m (pc + 3) ls (v.toList ++ rest))) : W p l e R s m args below meth c H locs cells slots Q (F0 m pc ls st) := by
  obtain ⟨G, hR0, hG, hF⟩ := hM
  refine g_callV X (hC G hR0) hd hn h1 h2 h3 h4 h5 hG hS (gRecv X hG (hR0 0 _ _ rfl) (ci := 1) rfl rfl) hl hR hf hroom hst hdg (fun w G1 H1 locs1 hp hG1 hS1 => ?_)
  obtain ⟨rfl, hR1, hF1⟩ := hp
  exact kk H1 locs1 ⟨G1, hR1, hG1, hF.trans hF1⟩ hS1
theorem m_callP (X : gC K p s m args meth c cc nL own) (hC : pMet l K y bytes maxL ret f o As v) {n : Nat} (hd : gPar y n) (hn : As.length = n) (h1 : Cond.methodLink own index y ∈ lw_all) (h2 : Cond.static y ∈ lw_all) (h4 : Cond.initialized y.cls ∈ lw_all) (h5 : Cond.code y bytes maxL ret ∈ lw_all)
    (hM : mH K mo A σ G0 H) (hS : va_S (gA K) s.heap H locs) (hl : lv_has ls nL L) (hR : f + 1 ≤ R.frames ∧ 24 + (maxL + 11) + o ≤ R.locals) (hf : cells ≤ R.cells ∧ slots ≤ R.slots) (hroom : (rest.map fun v => v.category).sum ≤ 24) (hst : st = As.reverse ++ rest) (hdg : decode cc pc = .ok (.invokestatic index, 3))
    (kk : ∀ (H1 : Heap) (locs1 : List Loc), mH K mo A σ G0 H1 → va_S (gA K) s.heap H1 locs1 → W p l e R s m args below meth c H1 locs1 cells slots Q (F0 m (pc + 3) ls (v.toList ++ rest))) : W p l e R s m args below meth c H locs cells slots Q (F0 m pc ls st) := by
  obtain ⟨G, hR0, hG, hF⟩ := hM
  refine g_callS X (hC G) hd hn h1 h2 h4 h5 hG hS hl hR hf hroom hst hdg (fun w G1 H1 locs1 hp hG1 hS1 => ?_)
  obtain ⟨rfl, rfl⟩ := hp
  exact kk H1 locs1 ⟨G1, hR0, hG1, hF⟩ hS1
theorem mPre (hR : mR K mo A σ G0) (hG : gH K G0 H) : mH K mo A σ G0 H := ⟨G0, hR, hG, gF.rf⟩
end MR
theorem mf0 {p : Program} {l : Launch} {e : Env} {R : Room} {s : State} {m : MethodId} {args : Array Value} {below : List Frame} {meth : Method} {c : Code} {H : Heap} {locs : List Loc} {cells slots : Nat} {Q : State → Prop} {cc : ByteArray} {pc : Nat} {ls : Array Slot} {rest : List Value} {K : gK} {nL : Nat} {G0 : gT} {mo : Nat} {A : mA} {σ : mS} (X : gC K p s m args meth c cc nL "KalmanQuayModel") (hM : mH K mo A σ G0 H) (hdg : decode cc pc = .ok (.getfield 7, 3)) (kk : W p l e R s m args below meth c H locs cells slots Q (F0 m (pc + 3) ls (.int (mz σ 0) :: rest))) : W p l e R s m args below meth c H locs cells slots Q (F0 m pc ls (.ref mo :: rest)) := by
  obtain ⟨G, hR, hG, hF⟩ := hM
  exact g_get X hG (hR 0 _ _ rfl) (ci := 1) rfl in_X2 0 (by decide) q1282 (fun _ h => h) rfl hdg kk
theorem mp0 {p : Program} {l : Launch} {e : Env} {R : Room} {s : State} {m : MethodId} {args : Array Value} {below : List Frame} {meth : Method} {c : Code} {H : Heap} {locs : List Loc} {cells slots : Nat} {Q : State → Prop} {cc : ByteArray} {pc : Nat} {ls : Array Slot} {rest : List Value} {K : gK} {nL : Nat} {G0 : gT} {mo : Nat} {A : mA} {σ : mS} (X : gC K p s m args meth c cc nL "KalmanQuayModel") (hM : mH K mo A σ G0 H) (hS : va_S (gA K) s.heap H locs) {v : Int32} (hdg : decode cc pc = .ok (.putfield 7, 3)) (kk : ∀ (H1 : Heap) (locs1 : List Loc), mH K mo A (sz σ 0 v) G0 H1 → va_S (gA K) s.heap H1 locs1 → W p l e R s m args below meth c H1 locs1 cells slots Q (F0 m (pc + 3) ls rest)) : W p l e R s m args below meth c H locs cells slots Q (F0 m pc ls (.int v :: .ref mo :: rest)) := by
  obtain ⟨G, hR, hG, hF⟩ := hM
  skip
  exact g_put X hG hS (hR 0 _ _ rfl) (ci := 1) rfl in_X2 tyX2 tyX2_ok nmX2 0 (by decide) q1282 (fun _ h => h) rfl rfl rfl (fs1 := mFs A (sz σ 0 v)) (by show 0 < 44; decide) rfl hdg (fun H1 locs1 hG1 hS1 => kk H1 locs1 ⟨_, hR.upd (t0 := 0) rfl rfl (fun t ht => mC_fld (σ := σ) (σ1 := sz σ 0 v) rfl t ht), hG1, hF.trans (gF.putO (hR 0 _ _ rfl) (by show (0 : Nat) < 10000; decide))⟩ hS1)
theorem mf1 {p : Program} {l : Launch} {e : Env} {R : Room} {s : State} {m : MethodId} {args : Array Value} {below : List Frame} {meth : Method} {c : Code} {H : Heap} {locs : List Loc} {cells slots : Nat} {Q : State → Prop} {cc : ByteArray} {pc : Nat} {ls : Array Slot} {rest : List Value} {K : gK} {nL : Nat} {G0 : gT} {mo : Nat} {A : mA} {σ : mS} (X : gC K p s m args meth c cc nL "KalmanQuayModel") (hM : mH K mo A σ G0 H) (hdg : decode cc pc = .ok (.getfield 13, 3)) (kk : W p l e R s m args below meth c H locs cells slots Q (F0 m (pc + 3) ls (.int (mz σ 1) :: rest))) : W p l e R s m args below meth c H locs cells slots Q (F0 m pc ls (.ref mo :: rest)) := by
  obtain ⟨G, hR, hG, hF⟩ := hM
  exact g_get X hG (hR 0 _ _ rfl) (ci := 1) rfl in_X2 1 (by decide) q1283 (fun _ h => h) rfl hdg kk
theorem mp1 {p : Program} {l : Launch} {e : Env} {R : Room} {s : State} {m : MethodId} {args : Array Value} {below : List Frame} {meth : Method} {c : Code} {H : Heap} {locs : List Loc} {cells slots : Nat} {Q : State → Prop} {cc : ByteArray} {pc : Nat} {ls : Array Slot} {rest : List Value} {K : gK} {nL : Nat} {G0 : gT} {mo : Nat} {A : mA} {σ : mS} (X : gC K p s m args meth c cc nL "KalmanQuayModel") (hM : mH K mo A σ G0 H) (hS : va_S (gA K) s.heap H locs) {v : Int32} (hdg : decode cc pc = .ok (.putfield 13, 3)) (kk : ∀ (H1 : Heap) (locs1 : List Loc), mH K mo A (sz σ 1 v) G0 H1 → va_S (gA K) s.heap H1 locs1 → W p l e R s m args below meth c H1 locs1 cells slots Q (F0 m (pc + 3) ls rest)) : W p l e R s m args below meth c H locs cells slots Q (F0 m pc ls (.int v :: .ref mo :: rest)) := by
  obtain ⟨G, hR, hG, hF⟩ := hM
  skip
  exact g_put X hG hS (hR 0 _ _ rfl) (ci := 1) rfl in_X2 tyX2 tyX2_ok nmX2 1 (by decide) q1283 (fun _ h => h) rfl rfl rfl (fs1 := mFs A (sz σ 1 v)) (by show 1 < 44; decide) rfl hdg (fun H1 locs1 hG1 hS1 => kk H1 locs1 ⟨_, hR.upd (t0 := 0) rfl rfl (fun t ht => mC_fld (σ := σ) (σ1 := sz σ 1 v) rfl t ht), hG1, hF.trans (gF.putO (hR 0 _ _ rfl) (by show (0 : Nat) < 10000; decide))⟩ hS1)
theorem mf2 {p : Program} {l : Launch} {e : Env} {R : Room} {s : State} {m : MethodId} {args : Array Value} {below : List Frame} {meth : Method} {c : Code} {H : Heap} {locs : List Loc} {cells slots : Nat} {Q : State → Prop} {cc : ByteArray} {pc : Nat} {ls : Array Slot} {rest : List Value} {K : gK} {nL : Nat} {G0 : gT} {mo : Nat} {A : mA} {σ : mS} (X : gC K p s m args meth c cc nL "KalmanQuayModel") (hM : mH K mo A σ G0 H) (hdg : decode cc pc = .ok (.getfield 16, 3)) (kk : W p l e R s m args below meth c H locs cells slots Q (F0 m (pc + 3) ls (.int (mz σ 2) :: rest))) : W p l e R s m args below meth c H locs cells slots Q (F0 m pc ls (.ref mo :: rest)) := by
  obtain ⟨G, hR, hG, hF⟩ := hM
  exact g_get X hG (hR 0 _ _ rfl) (ci := 1) rfl in_X2 2 (by decide) q1284 (fun _ h => h) rfl hdg kk
theorem mp2 {p : Program} {l : Launch} {e : Env} {R : Room} {s : State} {m : MethodId} {args : Array Value} {below : List Frame} {meth : Method} {c : Code} {H : Heap} {locs : List Loc} {cells slots : Nat} {Q : State → Prop} {cc : ByteArray} {pc : Nat} {ls : Array Slot} {rest : List Value} {K : gK} {nL : Nat} {G0 : gT} {mo : Nat} {A : mA} {σ : mS} (X : gC K p s m args meth c cc nL "KalmanQuayModel") (hM : mH K mo A σ G0 H) (hS : va_S (gA K) s.heap H locs) {v : Int32} (hdg : decode cc pc = .ok (.putfield 16, 3)) (kk : ∀ (H1 : Heap) (locs1 : List Loc), mH K mo A (sz σ 2 v) G0 H1 → va_S (gA K) s.heap H1 locs1 → W p l e R s m args below meth c H1 locs1 cells slots Q (F0 m (pc + 3) ls rest)) : W p l e R s m args below meth c H locs cells slots Q (F0 m pc ls (.int v :: .ref mo :: rest)) := by
  obtain ⟨G, hR, hG, hF⟩ := hM
  skip
  exact g_put X hG hS (hR 0 _ _ rfl) (ci := 1) rfl in_X2 tyX2 tyX2_ok nmX2 2 (by decide) q1284 (fun _ h => h) rfl rfl rfl (fs1 := mFs A (sz σ 2 v)) (by show 2 < 44; decide) rfl hdg (fun H1 locs1 hG1 hS1 => kk H1 locs1 ⟨_, hR.upd (t0 := 0) rfl rfl (fun t ht => mC_fld (σ := σ) (σ1 := sz σ 2 v) rfl t ht), hG1, hF.trans (gF.putO (hR 0 _ _ rfl) (by show (0 : Nat) < 10000; decide))⟩ hS1)
theorem mf3 {p : Program} {l : Launch} {e : Env} {R : Room} {s : State} {m : MethodId} {args : Array Value} {below : List Frame} {meth : Method} {c : Code} {H : Heap} {locs : List Loc} {cells slots : Nat} {Q : State → Prop} {cc : ByteArray} {pc : Nat} {ls : Array Slot} {rest : List Value} {K : gK} {nL : Nat} {G0 : gT} {mo : Nat} {A : mA} {σ : mS} (X : gC K p s m args meth c cc nL "KalmanQuayModel") (hM : mH K mo A σ G0 H) (hdg : decode cc pc = .ok (.getfield 19, 3)) (kk : W p l e R s m args below meth c H locs cells slots Q (F0 m (pc + 3) ls (.int (mz σ 3) :: rest))) : W p l e R s m args below meth c H locs cells slots Q (F0 m pc ls (.ref mo :: rest)) := by
  obtain ⟨G, hR, hG, hF⟩ := hM
  exact g_get X hG (hR 0 _ _ rfl) (ci := 1) rfl in_X2 3 (by decide) q1285 (fun _ h => h) rfl hdg kk
theorem mp3 {p : Program} {l : Launch} {e : Env} {R : Room} {s : State} {m : MethodId} {args : Array Value} {below : List Frame} {meth : Method} {c : Code} {H : Heap} {locs : List Loc} {cells slots : Nat} {Q : State → Prop} {cc : ByteArray} {pc : Nat} {ls : Array Slot} {rest : List Value} {K : gK} {nL : Nat} {G0 : gT} {mo : Nat} {A : mA} {σ : mS} (X : gC K p s m args meth c cc nL "KalmanQuayModel") (hM : mH K mo A σ G0 H) (hS : va_S (gA K) s.heap H locs) {v : Int32} (hdg : decode cc pc = .ok (.putfield 19, 3)) (kk : ∀ (H1 : Heap) (locs1 : List Loc), mH K mo A (sz σ 3 v) G0 H1 → va_S (gA K) s.heap H1 locs1 → W p l e R s m args below meth c H1 locs1 cells slots Q (F0 m (pc + 3) ls rest)) : W p l e R s m args below meth c H locs cells slots Q (F0 m pc ls (.int v :: .ref mo :: rest)) := by
  obtain ⟨G, hR, hG, hF⟩ := hM
  skip
  exact g_put X hG hS (hR 0 _ _ rfl) (ci := 1) rfl in_X2 tyX2 tyX2_ok nmX2 3 (by decide) q1285 (fun _ h => h) rfl rfl rfl (fs1 := mFs A (sz σ 3 v)) (by show 3 < 44; decide) rfl hdg (fun H1 locs1 hG1 hS1 => kk H1 locs1 ⟨_, hR.upd (t0 := 0) rfl rfl (fun t ht => mC_fld (σ := σ) (σ1 := sz σ 3 v) rfl t ht), hG1, hF.trans (gF.putO (hR 0 _ _ rfl) (by show (0 : Nat) < 10000; decide))⟩ hS1)
theorem mf4 {p : Program} {l : Launch} {e : Env} {R : Room} {s : State} {m : MethodId} {args : Array Value} {below : List Frame} {meth : Method} {c : Code} {H : Heap} {locs : List Loc} {cells slots : Nat} {Q : State → Prop} {cc : ByteArray} {pc : Nat} {ls : Array Slot} {rest : List Value} {K : gK} {nL : Nat} {G0 : gT} {mo : Nat} {A : mA} {σ : mS} (X : gC K p s m args meth c cc nL "KalmanQuayModel") (hM : mH K mo A σ G0 H) (hdg : decode cc pc = .ok (.getfield 23, 3)) (kk : W p l e R s m args below meth c H locs cells slots Q (F0 m (pc + 3) ls (.int (mz σ 4) :: rest))) : W p l e R s m args below meth c H locs cells slots Q (F0 m pc ls (.ref mo :: rest)) := by
  obtain ⟨G, hR, hG, hF⟩ := hM
  exact g_get X hG (hR 0 _ _ rfl) (ci := 1) rfl in_X2 4 (by decide) q1286 (fun _ h => h) rfl hdg kk
theorem mp4 {p : Program} {l : Launch} {e : Env} {R : Room} {s : State} {m : MethodId} {args : Array Value} {below : List Frame} {meth : Method} {c : Code} {H : Heap} {locs : List Loc} {cells slots : Nat} {Q : State → Prop} {cc : ByteArray} {pc : Nat} {ls : Array Slot} {rest : List Value} {K : gK} {nL : Nat} {G0 : gT} {mo : Nat} {A : mA} {σ : mS} (X : gC K p s m args meth c cc nL "KalmanQuayModel") (hM : mH K mo A σ G0 H) (hS : va_S (gA K) s.heap H locs) {v : Int32} (hdg : decode cc pc = .ok (.putfield 23, 3)) (kk : ∀ (H1 : Heap) (locs1 : List Loc), mH K mo A (sz σ 4 v) G0 H1 → va_S (gA K) s.heap H1 locs1 → W p l e R s m args below meth c H1 locs1 cells slots Q (F0 m (pc + 3) ls rest)) : W p l e R s m args below meth c H locs cells slots Q (F0 m pc ls (.int v :: .ref mo :: rest)) := by
  obtain ⟨G, hR, hG, hF⟩ := hM
  skip
  exact g_put X hG hS (hR 0 _ _ rfl) (ci := 1) rfl in_X2 tyX2 tyX2_ok nmX2 4 (by decide) q1286 (fun _ h => h) rfl rfl rfl (fs1 := mFs A (sz σ 4 v)) (by show 4 < 44; decide) rfl hdg (fun H1 locs1 hG1 hS1 => kk H1 locs1 ⟨_, hR.upd (t0 := 0) rfl rfl (fun t ht => mC_fld (σ := σ) (σ1 := sz σ 4 v) rfl t ht), hG1, hF.trans (gF.putO (hR 0 _ _ rfl) (by show (0 : Nat) < 10000; decide))⟩ hS1)
theorem mf6 {p : Program} {l : Launch} {e : Env} {R : Room} {s : State} {m : MethodId} {args : Array Value} {below : List Frame} {meth : Method} {c : Code} {H : Heap} {locs : List Loc} {cells slots : Nat} {Q : State → Prop} {cc : ByteArray} {pc : Nat} {ls : Array Slot} {rest : List Value} {K : gK} {nL : Nat} {G0 : gT} {mo : Nat} {A : mA} {σ : mS} (X : gC K p s m args meth c cc nL "KalmanQuayModel") (hM : mH K mo A σ G0 H) (hdg : decode cc pc = .ok (.getfield 26, 3)) (kk : W p l e R s m args below meth c H locs cells slots Q (F0 m (pc + 3) ls (.ref (A.1 6) :: rest))) : W p l e R s m args below meth c H locs cells slots Q (F0 m pc ls (.ref mo :: rest)) := by
  obtain ⟨G, hR, hG, hF⟩ := hM
  exact g_get X hG (hR 0 _ _ rfl) (ci := 1) rfl in_X2 6 (by decide) q1288 (fun _ h => h) rfl hdg kk
theorem mf9 {p : Program} {l : Launch} {e : Env} {R : Room} {s : State} {m : MethodId} {args : Array Value} {below : List Frame} {meth : Method} {c : Code} {H : Heap} {locs : List Loc} {cells slots : Nat} {Q : State → Prop} {cc : ByteArray} {pc : Nat} {ls : Array Slot} {rest : List Value} {K : gK} {nL : Nat} {G0 : gT} {mo : Nat} {A : mA} {σ : mS} (X : gC K p s m args meth c cc nL "KalmanQuayModel") (hM : mH K mo A σ G0 H) (hdg : decode cc pc = .ok (.getfield 30, 3)) (kk : W p l e R s m args below meth c H locs cells slots Q (F0 m (pc + 3) ls (.ref (A.1 9) :: rest))) : W p l e R s m args below meth c H locs cells slots Q (F0 m pc ls (.ref mo :: rest)) := by
  obtain ⟨G, hR, hG, hF⟩ := hM
  exact g_get X hG (hR 0 _ _ rfl) (ci := 1) rfl in_X2 9 (by decide) q1291 (fun _ h => h) rfl hdg kk
theorem mf10 {p : Program} {l : Launch} {e : Env} {R : Room} {s : State} {m : MethodId} {args : Array Value} {below : List Frame} {meth : Method} {c : Code} {H : Heap} {locs : List Loc} {cells slots : Nat} {Q : State → Prop} {cc : ByteArray} {pc : Nat} {ls : Array Slot} {rest : List Value} {K : gK} {nL : Nat} {G0 : gT} {mo : Nat} {A : mA} {σ : mS} (X : gC K p s m args meth c cc nL "KalmanQuayModel") (hM : mH K mo A σ G0 H) (hdg : decode cc pc = .ok (.getfield 33, 3)) (kk : W p l e R s m args below meth c H locs cells slots Q (F0 m (pc + 3) ls (.ref (A.1 10) :: rest))) : W p l e R s m args below meth c H locs cells slots Q (F0 m pc ls (.ref mo :: rest)) := by
  obtain ⟨G, hR, hG, hF⟩ := hM
  exact g_get X hG (hR 0 _ _ rfl) (ci := 1) rfl in_X2 10 (by decide) q1292 (fun _ h => h) rfl hdg kk
theorem mf12 {p : Program} {l : Launch} {e : Env} {R : Room} {s : State} {m : MethodId} {args : Array Value} {below : List Frame} {meth : Method} {c : Code} {H : Heap} {locs : List Loc} {cells slots : Nat} {Q : State → Prop} {cc : ByteArray} {pc : Nat} {ls : Array Slot} {rest : List Value} {K : gK} {nL : Nat} {G0 : gT} {mo : Nat} {A : mA} {σ : mS} (X : gC K p s m args meth c cc nL "KalmanQuayModel") (hM : mH K mo A σ G0 H) (hdg : decode cc pc = .ok (.getfield 36, 3)) (kk : W p l e R s m args below meth c H locs cells slots Q (F0 m (pc + 3) ls (.ref (A.1 12) :: rest))) : W p l e R s m args below meth c H locs cells slots Q (F0 m pc ls (.ref mo :: rest)) := by
  obtain ⟨G, hR, hG, hF⟩ := hM
  exact g_get X hG (hR 0 _ _ rfl) (ci := 1) rfl in_X2 12 (by decide) q1294 (fun _ h => h) rfl hdg kk
theorem mf16 {p : Program} {l : Launch} {e : Env} {R : Room} {s : State} {m : MethodId} {args : Array Value} {below : List Frame} {meth : Method} {c : Code} {H : Heap} {locs : List Loc} {cells slots : Nat} {Q : State → Prop} {cc : ByteArray} {pc : Nat} {ls : Array Slot} {rest : List Value} {K : gK} {nL : Nat} {G0 : gT} {mo : Nat} {A : mA} {σ : mS} (X : gC K p s m args meth c cc nL "KalmanQuayModel") (hM : mH K mo A σ G0 H) (hdg : decode cc pc = .ok (.getfield 39, 3)) (kk : W p l e R s m args below meth c H locs cells slots Q (F0 m (pc + 3) ls (.ref (A.1 16) :: rest))) : W p l e R s m args below meth c H locs cells slots Q (F0 m pc ls (.ref mo :: rest)) := by
  obtain ⟨G, hR, hG, hF⟩ := hM
  exact g_get X hG (hR 0 _ _ rfl) (ci := 1) rfl in_X2 16 (by decide) q1298 (fun _ h => h) rfl hdg kk
theorem mf17 {p : Program} {l : Launch} {e : Env} {R : Room} {s : State} {m : MethodId} {args : Array Value} {below : List Frame} {meth : Method} {c : Code} {H : Heap} {locs : List Loc} {cells slots : Nat} {Q : State → Prop} {cc : ByteArray} {pc : Nat} {ls : Array Slot} {rest : List Value} {K : gK} {nL : Nat} {G0 : gT} {mo : Nat} {A : mA} {σ : mS} (X : gC K p s m args meth c cc nL "KalmanQuayModel") (hM : mH K mo A σ G0 H) (hdg : decode cc pc = .ok (.getfield 43, 3)) (kk : W p l e R s m args below meth c H locs cells slots Q (F0 m (pc + 3) ls (.ref (A.1 17) :: rest))) : W p l e R s m args below meth c H locs cells slots Q (F0 m pc ls (.ref mo :: rest)) := by
  obtain ⟨G, hR, hG, hF⟩ := hM
  exact g_get X hG (hR 0 _ _ rfl) (ci := 1) rfl in_X2 17 (by decide) q1299 (fun _ h => h) rfl hdg kk
theorem mf18 {p : Program} {l : Launch} {e : Env} {R : Room} {s : State} {m : MethodId} {args : Array Value} {below : List Frame} {meth : Method} {c : Code} {H : Heap} {locs : List Loc} {cells slots : Nat} {Q : State → Prop} {cc : ByteArray} {pc : Nat} {ls : Array Slot} {rest : List Value} {K : gK} {nL : Nat} {G0 : gT} {mo : Nat} {A : mA} {σ : mS} (X : gC K p s m args meth c cc nL "KalmanQuayModel") (hM : mH K mo A σ G0 H) (hdg : decode cc pc = .ok (.getfield 46, 3)) (kk : W p l e R s m args below meth c H locs cells slots Q (F0 m (pc + 3) ls (.ref (A.1 18) :: rest))) : W p l e R s m args below meth c H locs cells slots Q (F0 m pc ls (.ref mo :: rest)) := by
  obtain ⟨G, hR, hG, hF⟩ := hM
  exact g_get X hG (hR 0 _ _ rfl) (ci := 1) rfl in_X2 18 (by decide) q1300 (fun _ h => h) rfl hdg kk
theorem mf19 {p : Program} {l : Launch} {e : Env} {R : Room} {s : State} {m : MethodId} {args : Array Value} {below : List Frame} {meth : Method} {c : Code} {H : Heap} {locs : List Loc} {cells slots : Nat} {Q : State → Prop} {cc : ByteArray} {pc : Nat} {ls : Array Slot} {rest : List Value} {K : gK} {nL : Nat} {G0 : gT} {mo : Nat} {A : mA} {σ : mS} (X : gC K p s m args meth c cc nL "KalmanQuayModel") (hM : mH K mo A σ G0 H) (hdg : decode cc pc = .ok (.getfield 49, 3)) (kk : W p l e R s m args below meth c H locs cells slots Q (F0 m (pc + 3) ls (.ref (A.1 19) :: rest))) : W p l e R s m args below meth c H locs cells slots Q (F0 m pc ls (.ref mo :: rest)) := by
  obtain ⟨G, hR, hG, hF⟩ := hM
  exact g_get X hG (hR 0 _ _ rfl) (ci := 1) rfl in_X2 19 (by decide) q1301 (fun _ h => h) rfl hdg kk
theorem mf20 {p : Program} {l : Launch} {e : Env} {R : Room} {s : State} {m : MethodId} {args : Array Value} {below : List Frame} {meth : Method} {c : Code} {H : Heap} {locs : List Loc} {cells slots : Nat} {Q : State → Prop} {cc : ByteArray} {pc : Nat} {ls : Array Slot} {rest : List Value} {K : gK} {nL : Nat} {G0 : gT} {mo : Nat} {A : mA} {σ : mS} (X : gC K p s m args meth c cc nL "KalmanQuayModel") (hM : mH K mo A σ G0 H) (hdg : decode cc pc = .ok (.getfield 52, 3)) (kk : W p l e R s m args below meth c H locs cells slots Q (F0 m (pc + 3) ls (.ref (A.1 20) :: rest))) : W p l e R s m args below meth c H locs cells slots Q (F0 m pc ls (.ref mo :: rest)) := by
  obtain ⟨G, hR, hG, hF⟩ := hM
  exact g_get X hG (hR 0 _ _ rfl) (ci := 1) rfl in_X2 20 (by decide) q1302 (fun _ h => h) rfl hdg kk
theorem mf21 {p : Program} {l : Launch} {e : Env} {R : Room} {s : State} {m : MethodId} {args : Array Value} {below : List Frame} {meth : Method} {c : Code} {H : Heap} {locs : List Loc} {cells slots : Nat} {Q : State → Prop} {cc : ByteArray} {pc : Nat} {ls : Array Slot} {rest : List Value} {K : gK} {nL : Nat} {G0 : gT} {mo : Nat} {A : mA} {σ : mS} (X : gC K p s m args meth c cc nL "KalmanQuayModel") (hM : mH K mo A σ G0 H) (hdg : decode cc pc = .ok (.getfield 55, 3)) (kk : W p l e R s m args below meth c H locs cells slots Q (F0 m (pc + 3) ls (.ref (A.1 21) :: rest))) : W p l e R s m args below meth c H locs cells slots Q (F0 m pc ls (.ref mo :: rest)) := by
  obtain ⟨G, hR, hG, hF⟩ := hM
  exact g_get X hG (hR 0 _ _ rfl) (ci := 1) rfl in_X2 21 (by decide) q1303 (fun _ h => h) rfl hdg kk
theorem mf22 {p : Program} {l : Launch} {e : Env} {R : Room} {s : State} {m : MethodId} {args : Array Value} {below : List Frame} {meth : Method} {c : Code} {H : Heap} {locs : List Loc} {cells slots : Nat} {Q : State → Prop} {cc : ByteArray} {pc : Nat} {ls : Array Slot} {rest : List Value} {K : gK} {nL : Nat} {G0 : gT} {mo : Nat} {A : mA} {σ : mS} (X : gC K p s m args meth c cc nL "KalmanQuayModel") (hM : mH K mo A σ G0 H) (hdg : decode cc pc = .ok (.getfield 58, 3)) (kk : W p l e R s m args below meth c H locs cells slots Q (F0 m (pc + 3) ls (.ref (A.1 22) :: rest))) : W p l e R s m args below meth c H locs cells slots Q (F0 m pc ls (.ref mo :: rest)) := by
  obtain ⟨G, hR, hG, hF⟩ := hM
  exact g_get X hG (hR 0 _ _ rfl) (ci := 1) rfl in_X2 22 (by decide) q1304 (fun _ h => h) rfl hdg kk
theorem mf23 {p : Program} {l : Launch} {e : Env} {R : Room} {s : State} {m : MethodId} {args : Array Value} {below : List Frame} {meth : Method} {c : Code} {H : Heap} {locs : List Loc} {cells slots : Nat} {Q : State → Prop} {cc : ByteArray} {pc : Nat} {ls : Array Slot} {rest : List Value} {K : gK} {nL : Nat} {G0 : gT} {mo : Nat} {A : mA} {σ : mS} (X : gC K p s m args meth c cc nL "KalmanQuayModel") (hM : mH K mo A σ G0 H) (hdg : decode cc pc = .ok (.getfield 61, 3)) (kk : W p l e R s m args below meth c H locs cells slots Q (F0 m (pc + 3) ls (.ref (A.1 23) :: rest))) : W p l e R s m args below meth c H locs cells slots Q (F0 m pc ls (.ref mo :: rest)) := by
  obtain ⟨G, hR, hG, hF⟩ := hM
  exact g_get X hG (hR 0 _ _ rfl) (ci := 1) rfl in_X2 23 (by decide) q1305 (fun _ h => h) rfl hdg kk
theorem mf24 {p : Program} {l : Launch} {e : Env} {R : Room} {s : State} {m : MethodId} {args : Array Value} {below : List Frame} {meth : Method} {c : Code} {H : Heap} {locs : List Loc} {cells slots : Nat} {Q : State → Prop} {cc : ByteArray} {pc : Nat} {ls : Array Slot} {rest : List Value} {K : gK} {nL : Nat} {G0 : gT} {mo : Nat} {A : mA} {σ : mS} (X : gC K p s m args meth c cc nL "KalmanQuayModel") (hM : mH K mo A σ G0 H) (hdg : decode cc pc = .ok (.getfield 64, 3)) (kk : W p l e R s m args below meth c H locs cells slots Q (F0 m (pc + 3) ls (.ref (A.1 24) :: rest))) : W p l e R s m args below meth c H locs cells slots Q (F0 m pc ls (.ref mo :: rest)) := by
  obtain ⟨G, hR, hG, hF⟩ := hM
  exact g_get X hG (hR 0 _ _ rfl) (ci := 1) rfl in_X2 24 (by decide) q1306 (fun _ h => h) rfl hdg kk
theorem mf25 {p : Program} {l : Launch} {e : Env} {R : Room} {s : State} {m : MethodId} {args : Array Value} {below : List Frame} {meth : Method} {c : Code} {H : Heap} {locs : List Loc} {cells slots : Nat} {Q : State → Prop} {cc : ByteArray} {pc : Nat} {ls : Array Slot} {rest : List Value} {K : gK} {nL : Nat} {G0 : gT} {mo : Nat} {A : mA} {σ : mS} (X : gC K p s m args meth c cc nL "KalmanQuayModel") (hM : mH K mo A σ G0 H) (hdg : decode cc pc = .ok (.getfield 69, 3)) (kk : W p l e R s m args below meth c H locs cells slots Q (F0 m (pc + 3) ls (.ref (A.1 25) :: rest))) : W p l e R s m args below meth c H locs cells slots Q (F0 m pc ls (.ref mo :: rest)) := by
  obtain ⟨G, hR, hG, hF⟩ := hM
  exact g_get X hG (hR 0 _ _ rfl) (ci := 1) rfl in_X2 25 (by decide) q1307 (fun _ h => h) rfl hdg kk
theorem mf26 {p : Program} {l : Launch} {e : Env} {R : Room} {s : State} {m : MethodId} {args : Array Value} {below : List Frame} {meth : Method} {c : Code} {H : Heap} {locs : List Loc} {cells slots : Nat} {Q : State → Prop} {cc : ByteArray} {pc : Nat} {ls : Array Slot} {rest : List Value} {K : gK} {nL : Nat} {G0 : gT} {mo : Nat} {A : mA} {σ : mS} (X : gC K p s m args meth c cc nL "KalmanQuayModel") (hM : mH K mo A σ G0 H) (hdg : decode cc pc = .ok (.getfield 74, 3)) (kk : W p l e R s m args below meth c H locs cells slots Q (F0 m (pc + 3) ls (.ref (A.1 26) :: rest))) : W p l e R s m args below meth c H locs cells slots Q (F0 m pc ls (.ref mo :: rest)) := by
  obtain ⟨G, hR, hG, hF⟩ := hM
  exact g_get X hG (hR 0 _ _ rfl) (ci := 1) rfl in_X2 26 (by decide) q1308 (fun _ h => h) rfl hdg kk
theorem mf27 {p : Program} {l : Launch} {e : Env} {R : Room} {s : State} {m : MethodId} {args : Array Value} {below : List Frame} {meth : Method} {c : Code} {H : Heap} {locs : List Loc} {cells slots : Nat} {Q : State → Prop} {cc : ByteArray} {pc : Nat} {ls : Array Slot} {rest : List Value} {K : gK} {nL : Nat} {G0 : gT} {mo : Nat} {A : mA} {σ : mS} (X : gC K p s m args meth c cc nL "KalmanQuayModel") (hM : mH K mo A σ G0 H) (hdg : decode cc pc = .ok (.getfield 77, 3)) (kk : W p l e R s m args below meth c H locs cells slots Q (F0 m (pc + 3) ls (.ref (A.1 27) :: rest))) : W p l e R s m args below meth c H locs cells slots Q (F0 m pc ls (.ref mo :: rest)) := by
  obtain ⟨G, hR, hG, hF⟩ := hM
  exact g_get X hG (hR 0 _ _ rfl) (ci := 1) rfl in_X2 27 (by decide) q1309 (fun _ h => h) rfl hdg kk
theorem mf28 {p : Program} {l : Launch} {e : Env} {R : Room} {s : State} {m : MethodId} {args : Array Value} {below : List Frame} {meth : Method} {c : Code} {H : Heap} {locs : List Loc} {cells slots : Nat} {Q : State → Prop} {cc : ByteArray} {pc : Nat} {ls : Array Slot} {rest : List Value} {K : gK} {nL : Nat} {G0 : gT} {mo : Nat} {A : mA} {σ : mS} (X : gC K p s m args meth c cc nL "KalmanQuayModel") (hM : mH K mo A σ G0 H) (hdg : decode cc pc = .ok (.getfield 80, 3)) (kk : W p l e R s m args below meth c H locs cells slots Q (F0 m (pc + 3) ls (.ref (A.1 28) :: rest))) : W p l e R s m args below meth c H locs cells slots Q (F0 m pc ls (.ref mo :: rest)) := by
  obtain ⟨G, hR, hG, hF⟩ := hM
  exact g_get X hG (hR 0 _ _ rfl) (ci := 1) rfl in_X2 28 (by decide) q1310 (fun _ h => h) rfl hdg kk
theorem mf29 {p : Program} {l : Launch} {e : Env} {R : Room} {s : State} {m : MethodId} {args : Array Value} {below : List Frame} {meth : Method} {c : Code} {H : Heap} {locs : List Loc} {cells slots : Nat} {Q : State → Prop} {cc : ByteArray} {pc : Nat} {ls : Array Slot} {rest : List Value} {K : gK} {nL : Nat} {G0 : gT} {mo : Nat} {A : mA} {σ : mS} (X : gC K p s m args meth c cc nL "KalmanQuayModel") (hM : mH K mo A σ G0 H) (hdg : decode cc pc = .ok (.getfield 84, 3)) (kk : W p l e R s m args below meth c H locs cells slots Q (F0 m (pc + 3) ls (.ref (A.1 29) :: rest))) : W p l e R s m args below meth c H locs cells slots Q (F0 m pc ls (.ref mo :: rest)) := by
  obtain ⟨G, hR, hG, hF⟩ := hM
  exact g_get X hG (hR 0 _ _ rfl) (ci := 1) rfl in_X2 29 (by decide) q1311 (fun _ h => h) rfl hdg kk
theorem mf30 {p : Program} {l : Launch} {e : Env} {R : Room} {s : State} {m : MethodId} {args : Array Value} {below : List Frame} {meth : Method} {c : Code} {H : Heap} {locs : List Loc} {cells slots : Nat} {Q : State → Prop} {cc : ByteArray} {pc : Nat} {ls : Array Slot} {rest : List Value} {K : gK} {nL : Nat} {G0 : gT} {mo : Nat} {A : mA} {σ : mS} (X : gC K p s m args meth c cc nL "KalmanQuayModel") (hM : mH K mo A σ G0 H) (hdg : decode cc pc = .ok (.getfield 87, 3)) (kk : W p l e R s m args below meth c H locs cells slots Q (F0 m (pc + 3) ls (.ref (A.1 30) :: rest))) : W p l e R s m args below meth c H locs cells slots Q (F0 m pc ls (.ref mo :: rest)) := by
  obtain ⟨G, hR, hG, hF⟩ := hM
  exact g_get X hG (hR 0 _ _ rfl) (ci := 1) rfl in_X2 30 (by decide) q1312 (fun _ h => h) rfl hdg kk
theorem mf31 {p : Program} {l : Launch} {e : Env} {R : Room} {s : State} {m : MethodId} {args : Array Value} {below : List Frame} {meth : Method} {c : Code} {H : Heap} {locs : List Loc} {cells slots : Nat} {Q : State → Prop} {cc : ByteArray} {pc : Nat} {ls : Array Slot} {rest : List Value} {K : gK} {nL : Nat} {G0 : gT} {mo : Nat} {A : mA} {σ : mS} (X : gC K p s m args meth c cc nL "KalmanQuayModel") (hM : mH K mo A σ G0 H) (hdg : decode cc pc = .ok (.getfield 90, 3)) (kk : W p l e R s m args below meth c H locs cells slots Q (F0 m (pc + 3) ls (.ref (A.1 31) :: rest))) : W p l e R s m args below meth c H locs cells slots Q (F0 m pc ls (.ref mo :: rest)) := by
  obtain ⟨G, hR, hG, hF⟩ := hM
  exact g_get X hG (hR 0 _ _ rfl) (ci := 1) rfl in_X2 31 (by decide) q1313 (fun _ h => h) rfl hdg kk
theorem mf32 {p : Program} {l : Launch} {e : Env} {R : Room} {s : State} {m : MethodId} {args : Array Value} {below : List Frame} {meth : Method} {c : Code} {H : Heap} {locs : List Loc} {cells slots : Nat} {Q : State → Prop} {cc : ByteArray} {pc : Nat} {ls : Array Slot} {rest : List Value} {K : gK} {nL : Nat} {G0 : gT} {mo : Nat} {A : mA} {σ : mS} (X : gC K p s m args meth c cc nL "KalmanQuayModel") (hM : mH K mo A σ G0 H) (hdg : decode cc pc = .ok (.getfield 93, 3)) (kk : W p l e R s m args below meth c H locs cells slots Q (F0 m (pc + 3) ls (.ref (A.1 32) :: rest))) : W p l e R s m args below meth c H locs cells slots Q (F0 m pc ls (.ref mo :: rest)) := by
  obtain ⟨G, hR, hG, hF⟩ := hM
  exact g_get X hG (hR 0 _ _ rfl) (ci := 1) rfl in_X2 32 (by decide) q1314 (fun _ h => h) rfl hdg kk
theorem mf33 {p : Program} {l : Launch} {e : Env} {R : Room} {s : State} {m : MethodId} {args : Array Value} {below : List Frame} {meth : Method} {c : Code} {H : Heap} {locs : List Loc} {cells slots : Nat} {Q : State → Prop} {cc : ByteArray} {pc : Nat} {ls : Array Slot} {rest : List Value} {K : gK} {nL : Nat} {G0 : gT} {mo : Nat} {A : mA} {σ : mS} (X : gC K p s m args meth c cc nL "KalmanQuayModel") (hM : mH K mo A σ G0 H) (hdg : decode cc pc = .ok (.getfield 96, 3)) (kk : W p l e R s m args below meth c H locs cells slots Q (F0 m (pc + 3) ls (.ref (A.1 33) :: rest))) : W p l e R s m args below meth c H locs cells slots Q (F0 m pc ls (.ref mo :: rest)) := by
  obtain ⟨G, hR, hG, hF⟩ := hM
  exact g_get X hG (hR 0 _ _ rfl) (ci := 1) rfl in_X2 33 (by decide) q1315 (fun _ h => h) rfl hdg kk
theorem mf35 {p : Program} {l : Launch} {e : Env} {R : Room} {s : State} {m : MethodId} {args : Array Value} {below : List Frame} {meth : Method} {c : Code} {H : Heap} {locs : List Loc} {cells slots : Nat} {Q : State → Prop} {cc : ByteArray} {pc : Nat} {ls : Array Slot} {rest : List Value} {K : gK} {nL : Nat} {G0 : gT} {mo : Nat} {A : mA} {σ : mS} (X : gC K p s m args meth c cc nL "KalmanQuayModel") (hM : mH K mo A σ G0 H) (hdg : decode cc pc = .ok (.getfield 99, 3)) (kk : W p l e R s m args below meth c H locs cells slots Q (F0 m (pc + 3) ls (.ref (A.1 35) :: rest))) : W p l e R s m args below meth c H locs cells slots Q (F0 m pc ls (.ref mo :: rest)) := by
  obtain ⟨G, hR, hG, hF⟩ := hM
  exact g_get X hG (hR 0 _ _ rfl) (ci := 1) rfl in_X2 35 (by decide) q1317 (fun _ h => h) rfl hdg kk
theorem mf37 {p : Program} {l : Launch} {e : Env} {R : Room} {s : State} {m : MethodId} {args : Array Value} {below : List Frame} {meth : Method} {c : Code} {H : Heap} {locs : List Loc} {cells slots : Nat} {Q : State → Prop} {cc : ByteArray} {pc : Nat} {ls : Array Slot} {rest : List Value} {K : gK} {nL : Nat} {G0 : gT} {mo : Nat} {A : mA} {σ : mS} (X : gC K p s m args meth c cc nL "KalmanQuayModel") (hM : mH K mo A σ G0 H) (hdg : decode cc pc = .ok (.getfield 102, 3)) (kk : W p l e R s m args below meth c H locs cells slots Q (F0 m (pc + 3) ls (.ref (A.1 37) :: rest))) : W p l e R s m args below meth c H locs cells slots Q (F0 m pc ls (.ref mo :: rest)) := by
  obtain ⟨G, hR, hG, hF⟩ := hM
  exact g_get X hG (hR 0 _ _ rfl) (ci := 1) rfl in_X2 37 (by decide) q1319 (fun _ h => h) rfl hdg kk
theorem mf38 {p : Program} {l : Launch} {e : Env} {R : Room} {s : State} {m : MethodId} {args : Array Value} {below : List Frame} {meth : Method} {c : Code} {H : Heap} {locs : List Loc} {cells slots : Nat} {Q : State → Prop} {cc : ByteArray} {pc : Nat} {ls : Array Slot} {rest : List Value} {K : gK} {nL : Nat} {G0 : gT} {mo : Nat} {A : mA} {σ : mS} (X : gC K p s m args meth c cc nL "KalmanQuayModel") (hM : mH K mo A σ G0 H) (hdg : decode cc pc = .ok (.getfield 105, 3)) (kk : W p l e R s m args below meth c H locs cells slots Q (F0 m (pc + 3) ls (.ref (A.1 38) :: rest))) : W p l e R s m args below meth c H locs cells slots Q (F0 m pc ls (.ref mo :: rest)) := by
  obtain ⟨G, hR, hG, hF⟩ := hM
  exact g_get X hG (hR 0 _ _ rfl) (ci := 1) rfl in_X2 38 (by decide) q1320 (fun _ h => h) rfl hdg kk
theorem mf43 {p : Program} {l : Launch} {e : Env} {R : Room} {s : State} {m : MethodId} {args : Array Value} {below : List Frame} {meth : Method} {c : Code} {H : Heap} {locs : List Loc} {cells slots : Nat} {Q : State → Prop} {cc : ByteArray} {pc : Nat} {ls : Array Slot} {rest : List Value} {K : gK} {nL : Nat} {G0 : gT} {mo : Nat} {A : mA} {σ : mS} (X : gC K p s m args meth c cc nL "KalmanQuayModel") (hM : mH K mo A σ G0 H) (hdg : decode cc pc = .ok (.getfield 108, 3)) (kk : W p l e R s m args below meth c H locs cells slots Q (F0 m (pc + 3) ls (.int (nI (mn σ 43)) :: rest))) : W p l e R s m args below meth c H locs cells slots Q (F0 m pc ls (.ref mo :: rest)) := by
  obtain ⟨G, hR, hG, hF⟩ := hM
  exact g_get X hG (hR 0 _ _ rfl) (ci := 1) rfl in_X2 43 (by decide) q1325 (fun _ h => h) rfl hdg kk
theorem mp43 {p : Program} {l : Launch} {e : Env} {R : Room} {s : State} {m : MethodId} {args : Array Value} {below : List Frame} {meth : Method} {c : Code} {H : Heap} {locs : List Loc} {cells slots : Nat} {Q : State → Prop} {cc : ByteArray} {pc : Nat} {ls : Array Slot} {rest : List Value} {K : gK} {nL : Nat} {G0 : gT} {mo : Nat} {A : mA} {σ : mS} (X : gC K p s m args meth c cc nL "KalmanQuayModel") (hM : mH K mo A σ G0 H) (hS : va_S (gA K) s.heap H locs) {v : Nat} {x : Int32} (hx : x = nI v) (hdg : decode cc pc = .ok (.putfield 108, 3)) (kk : ∀ (H1 : Heap) (locs1 : List Loc), mH K mo A (sn σ 43 v) G0 H1 → va_S (gA K) s.heap H1 locs1 → W p l e R s m args below meth c H1 locs1 cells slots Q (F0 m (pc + 3) ls rest)) : W p l e R s m args below meth c H locs cells slots Q (F0 m pc ls (.int x :: .ref mo :: rest)) := by
  obtain ⟨G, hR, hG, hF⟩ := hM
  subst hx
  exact g_put X hG hS (hR 0 _ _ rfl) (ci := 1) rfl in_X2 tyX2 tyX2_ok nmX2 43 (by decide) q1325 (fun _ h => h) rfl rfl rfl (fs1 := mFs A (sn σ 43 v)) (by show 43 < 44; decide) rfl hdg (fun H1 locs1 hG1 hS1 => kk H1 locs1 ⟨_, hR.upd (t0 := 0) rfl rfl (fun t ht => mC_fld (σ := σ) (σ1 := sn σ 43 v) rfl t ht), hG1, hF.trans (gF.putO (hR 0 _ _ rfl) (by show (0 : Nat) < 10000; decide))⟩ hS1)
theorem mf7 {p : Program} {l : Launch} {e : Env} {R : Room} {s : State} {m : MethodId} {args : Array Value} {below : List Frame} {meth : Method} {c : Code} {H : Heap} {locs : List Loc} {cells slots : Nat} {Q : State → Prop} {cc : ByteArray} {pc : Nat} {ls : Array Slot} {rest : List Value} {K : gK} {nL : Nat} {G0 : gT} {mo : Nat} {A : mA} {σ : mS} (X : gC K p s m args meth c cc nL "KalmanQuayModel") (hM : mH K mo A σ G0 H) (hdg : decode cc pc = .ok (.getfield 115, 3)) (kk : W p l e R s m args below meth c H locs cells slots Q (F0 m (pc + 3) ls (.int (nI (mn σ 7)) :: rest))) : W p l e R s m args below meth c H locs cells slots Q (F0 m pc ls (.ref mo :: rest)) := by
  obtain ⟨G, hR, hG, hF⟩ := hM
  exact g_get X hG (hR 0 _ _ rfl) (ci := 1) rfl in_X2 7 (by decide) q1289 (fun _ h => h) rfl hdg kk
theorem mp7 {p : Program} {l : Launch} {e : Env} {R : Room} {s : State} {m : MethodId} {args : Array Value} {below : List Frame} {meth : Method} {c : Code} {H : Heap} {locs : List Loc} {cells slots : Nat} {Q : State → Prop} {cc : ByteArray} {pc : Nat} {ls : Array Slot} {rest : List Value} {K : gK} {nL : Nat} {G0 : gT} {mo : Nat} {A : mA} {σ : mS} (X : gC K p s m args meth c cc nL "KalmanQuayModel") (hM : mH K mo A σ G0 H) (hS : va_S (gA K) s.heap H locs) {v : Nat} {x : Int32} (hx : x = nI v) (hdg : decode cc pc = .ok (.putfield 115, 3)) (kk : ∀ (H1 : Heap) (locs1 : List Loc), mH K mo A (sn σ 7 v) G0 H1 → va_S (gA K) s.heap H1 locs1 → W p l e R s m args below meth c H1 locs1 cells slots Q (F0 m (pc + 3) ls rest)) : W p l e R s m args below meth c H locs cells slots Q (F0 m pc ls (.int x :: .ref mo :: rest)) := by
  obtain ⟨G, hR, hG, hF⟩ := hM
  subst hx
  exact g_put X hG hS (hR 0 _ _ rfl) (ci := 1) rfl in_X2 tyX2 tyX2_ok nmX2 7 (by decide) q1289 (fun _ h => h) rfl rfl rfl (fs1 := mFs A (sn σ 7 v)) (by show 7 < 44; decide) rfl hdg (fun H1 locs1 hG1 hS1 => kk H1 locs1 ⟨_, hR.upd (t0 := 0) rfl rfl (fun t ht => mC_fld (σ := σ) (σ1 := sn σ 7 v) rfl t ht), hG1, hF.trans (gF.putO (hR 0 _ _ rfl) (by show (0 : Nat) < 10000; decide))⟩ hS1)
theorem mf8 {p : Program} {l : Launch} {e : Env} {R : Room} {s : State} {m : MethodId} {args : Array Value} {below : List Frame} {meth : Method} {c : Code} {H : Heap} {locs : List Loc} {cells slots : Nat} {Q : State → Prop} {cc : ByteArray} {pc : Nat} {ls : Array Slot} {rest : List Value} {K : gK} {nL : Nat} {G0 : gT} {mo : Nat} {A : mA} {σ : mS} (X : gC K p s m args meth c cc nL "KalmanQuayModel") (hM : mH K mo A σ G0 H) (hdg : decode cc pc = .ok (.getfield 118, 3)) (kk : W p l e R s m args below meth c H locs cells slots Q (F0 m (pc + 3) ls (.int (nI (mn σ 8)) :: rest))) : W p l e R s m args below meth c H locs cells slots Q (F0 m pc ls (.ref mo :: rest)) := by
  obtain ⟨G, hR, hG, hF⟩ := hM
  exact g_get X hG (hR 0 _ _ rfl) (ci := 1) rfl in_X2 8 (by decide) q1290 (fun _ h => h) rfl hdg kk
theorem mp8 {p : Program} {l : Launch} {e : Env} {R : Room} {s : State} {m : MethodId} {args : Array Value} {below : List Frame} {meth : Method} {c : Code} {H : Heap} {locs : List Loc} {cells slots : Nat} {Q : State → Prop} {cc : ByteArray} {pc : Nat} {ls : Array Slot} {rest : List Value} {K : gK} {nL : Nat} {G0 : gT} {mo : Nat} {A : mA} {σ : mS} (X : gC K p s m args meth c cc nL "KalmanQuayModel") (hM : mH K mo A σ G0 H) (hS : va_S (gA K) s.heap H locs) {v : Nat} {x : Int32} (hx : x = nI v) (hdg : decode cc pc = .ok (.putfield 118, 3)) (kk : ∀ (H1 : Heap) (locs1 : List Loc), mH K mo A (sn σ 8 v) G0 H1 → va_S (gA K) s.heap H1 locs1 → W p l e R s m args below meth c H1 locs1 cells slots Q (F0 m (pc + 3) ls rest)) : W p l e R s m args below meth c H locs cells slots Q (F0 m pc ls (.int x :: .ref mo :: rest)) := by
  obtain ⟨G, hR, hG, hF⟩ := hM
  subst hx
  exact g_put X hG hS (hR 0 _ _ rfl) (ci := 1) rfl in_X2 tyX2 tyX2_ok nmX2 8 (by decide) q1290 (fun _ h => h) rfl rfl rfl (fs1 := mFs A (sn σ 8 v)) (by show 8 < 44; decide) rfl hdg (fun H1 locs1 hG1 hS1 => kk H1 locs1 ⟨_, hR.upd (t0 := 0) rfl rfl (fun t ht => mC_fld (σ := σ) (σ1 := sn σ 8 v) rfl t ht), hG1, hF.trans (gF.putO (hR 0 _ _ rfl) (by show (0 : Nat) < 10000; decide))⟩ hS1)
theorem mf11 {p : Program} {l : Launch} {e : Env} {R : Room} {s : State} {m : MethodId} {args : Array Value} {below : List Frame} {meth : Method} {c : Code} {H : Heap} {locs : List Loc} {cells slots : Nat} {Q : State → Prop} {cc : ByteArray} {pc : Nat} {ls : Array Slot} {rest : List Value} {K : gK} {nL : Nat} {G0 : gT} {mo : Nat} {A : mA} {σ : mS} (X : gC K p s m args meth c cc nL "KalmanQuayModel") (hM : mH K mo A σ G0 H) (hdg : decode cc pc = .ok (.getfield 121, 3)) (kk : W p l e R s m args below meth c H locs cells slots Q (F0 m (pc + 3) ls (.int (nI (mn σ 11)) :: rest))) : W p l e R s m args below meth c H locs cells slots Q (F0 m pc ls (.ref mo :: rest)) := by
  obtain ⟨G, hR, hG, hF⟩ := hM
  exact g_get X hG (hR 0 _ _ rfl) (ci := 1) rfl in_X2 11 (by decide) q1293 (fun _ h => h) rfl hdg kk
theorem mp11 {p : Program} {l : Launch} {e : Env} {R : Room} {s : State} {m : MethodId} {args : Array Value} {below : List Frame} {meth : Method} {c : Code} {H : Heap} {locs : List Loc} {cells slots : Nat} {Q : State → Prop} {cc : ByteArray} {pc : Nat} {ls : Array Slot} {rest : List Value} {K : gK} {nL : Nat} {G0 : gT} {mo : Nat} {A : mA} {σ : mS} (X : gC K p s m args meth c cc nL "KalmanQuayModel") (hM : mH K mo A σ G0 H) (hS : va_S (gA K) s.heap H locs) {v : Nat} {x : Int32} (hx : x = nI v) (hdg : decode cc pc = .ok (.putfield 121, 3)) (kk : ∀ (H1 : Heap) (locs1 : List Loc), mH K mo A (sn σ 11 v) G0 H1 → va_S (gA K) s.heap H1 locs1 → W p l e R s m args below meth c H1 locs1 cells slots Q (F0 m (pc + 3) ls rest)) : W p l e R s m args below meth c H locs cells slots Q (F0 m pc ls (.int x :: .ref mo :: rest)) := by
  obtain ⟨G, hR, hG, hF⟩ := hM
  subst hx
  exact g_put X hG hS (hR 0 _ _ rfl) (ci := 1) rfl in_X2 tyX2 tyX2_ok nmX2 11 (by decide) q1293 (fun _ h => h) rfl rfl rfl (fs1 := mFs A (sn σ 11 v)) (by show 11 < 44; decide) rfl hdg (fun H1 locs1 hG1 hS1 => kk H1 locs1 ⟨_, hR.upd (t0 := 0) rfl rfl (fun t ht => mC_fld (σ := σ) (σ1 := sn σ 11 v) rfl t ht), hG1, hF.trans (gF.putO (hR 0 _ _ rfl) (by show (0 : Nat) < 10000; decide))⟩ hS1)
theorem mf13 {p : Program} {l : Launch} {e : Env} {R : Room} {s : State} {m : MethodId} {args : Array Value} {below : List Frame} {meth : Method} {c : Code} {H : Heap} {locs : List Loc} {cells slots : Nat} {Q : State → Prop} {cc : ByteArray} {pc : Nat} {ls : Array Slot} {rest : List Value} {K : gK} {nL : Nat} {G0 : gT} {mo : Nat} {A : mA} {σ : mS} (X : gC K p s m args meth c cc nL "KalmanQuayModel") (hM : mH K mo A σ G0 H) (hdg : decode cc pc = .ok (.getfield 124, 3)) (kk : W p l e R s m args below meth c H locs cells slots Q (F0 m (pc + 3) ls (.int (nI (mn σ 13)) :: rest))) : W p l e R s m args below meth c H locs cells slots Q (F0 m pc ls (.ref mo :: rest)) := by
  obtain ⟨G, hR, hG, hF⟩ := hM
  exact g_get X hG (hR 0 _ _ rfl) (ci := 1) rfl in_X2 13 (by decide) q1295 (fun _ h => h) rfl hdg kk
theorem mp13 {p : Program} {l : Launch} {e : Env} {R : Room} {s : State} {m : MethodId} {args : Array Value} {below : List Frame} {meth : Method} {c : Code} {H : Heap} {locs : List Loc} {cells slots : Nat} {Q : State → Prop} {cc : ByteArray} {pc : Nat} {ls : Array Slot} {rest : List Value} {K : gK} {nL : Nat} {G0 : gT} {mo : Nat} {A : mA} {σ : mS} (X : gC K p s m args meth c cc nL "KalmanQuayModel") (hM : mH K mo A σ G0 H) (hS : va_S (gA K) s.heap H locs) {v : Nat} {x : Int32} (hx : x = nI v) (hdg : decode cc pc = .ok (.putfield 124, 3)) (kk : ∀ (H1 : Heap) (locs1 : List Loc), mH K mo A (sn σ 13 v) G0 H1 → va_S (gA K) s.heap H1 locs1 → W p l e R s m args below meth c H1 locs1 cells slots Q (F0 m (pc + 3) ls rest)) : W p l e R s m args below meth c H locs cells slots Q (F0 m pc ls (.int x :: .ref mo :: rest)) := by
  obtain ⟨G, hR, hG, hF⟩ := hM
  subst hx
  exact g_put X hG hS (hR 0 _ _ rfl) (ci := 1) rfl in_X2 tyX2 tyX2_ok nmX2 13 (by decide) q1295 (fun _ h => h) rfl rfl rfl (fs1 := mFs A (sn σ 13 v)) (by show 13 < 44; decide) rfl hdg (fun H1 locs1 hG1 hS1 => kk H1 locs1 ⟨_, hR.upd (t0 := 0) rfl rfl (fun t ht => mC_fld (σ := σ) (σ1 := sn σ 13 v) rfl t ht), hG1, hF.trans (gF.putO (hR 0 _ _ rfl) (by show (0 : Nat) < 10000; decide))⟩ hS1)
theorem mf14 {p : Program} {l : Launch} {e : Env} {R : Room} {s : State} {m : MethodId} {args : Array Value} {below : List Frame} {meth : Method} {c : Code} {H : Heap} {locs : List Loc} {cells slots : Nat} {Q : State → Prop} {cc : ByteArray} {pc : Nat} {ls : Array Slot} {rest : List Value} {K : gK} {nL : Nat} {G0 : gT} {mo : Nat} {A : mA} {σ : mS} (X : gC K p s m args meth c cc nL "KalmanQuayModel") (hM : mH K mo A σ G0 H) (hdg : decode cc pc = .ok (.getfield 127, 3)) (kk : W p l e R s m args below meth c H locs cells slots Q (F0 m (pc + 3) ls (.int (nI (mn σ 14)) :: rest))) : W p l e R s m args below meth c H locs cells slots Q (F0 m pc ls (.ref mo :: rest)) := by
  obtain ⟨G, hR, hG, hF⟩ := hM
  exact g_get X hG (hR 0 _ _ rfl) (ci := 1) rfl in_X2 14 (by decide) q1296 (fun _ h => h) rfl hdg kk
theorem mp14 {p : Program} {l : Launch} {e : Env} {R : Room} {s : State} {m : MethodId} {args : Array Value} {below : List Frame} {meth : Method} {c : Code} {H : Heap} {locs : List Loc} {cells slots : Nat} {Q : State → Prop} {cc : ByteArray} {pc : Nat} {ls : Array Slot} {rest : List Value} {K : gK} {nL : Nat} {G0 : gT} {mo : Nat} {A : mA} {σ : mS} (X : gC K p s m args meth c cc nL "KalmanQuayModel") (hM : mH K mo A σ G0 H) (hS : va_S (gA K) s.heap H locs) {v : Nat} {x : Int32} (hx : x = nI v) (hdg : decode cc pc = .ok (.putfield 127, 3)) (kk : ∀ (H1 : Heap) (locs1 : List Loc), mH K mo A (sn σ 14 v) G0 H1 → va_S (gA K) s.heap H1 locs1 → W p l e R s m args below meth c H1 locs1 cells slots Q (F0 m (pc + 3) ls rest)) : W p l e R s m args below meth c H locs cells slots Q (F0 m pc ls (.int x :: .ref mo :: rest)) := by
  obtain ⟨G, hR, hG, hF⟩ := hM
  subst hx
  exact g_put X hG hS (hR 0 _ _ rfl) (ci := 1) rfl in_X2 tyX2 tyX2_ok nmX2 14 (by decide) q1296 (fun _ h => h) rfl rfl rfl (fs1 := mFs A (sn σ 14 v)) (by show 14 < 44; decide) rfl hdg (fun H1 locs1 hG1 hS1 => kk H1 locs1 ⟨_, hR.upd (t0 := 0) rfl rfl (fun t ht => mC_fld (σ := σ) (σ1 := sn σ 14 v) rfl t ht), hG1, hF.trans (gF.putO (hR 0 _ _ rfl) (by show (0 : Nat) < 10000; decide))⟩ hS1)
theorem mf15 {p : Program} {l : Launch} {e : Env} {R : Room} {s : State} {m : MethodId} {args : Array Value} {below : List Frame} {meth : Method} {c : Code} {H : Heap} {locs : List Loc} {cells slots : Nat} {Q : State → Prop} {cc : ByteArray} {pc : Nat} {ls : Array Slot} {rest : List Value} {K : gK} {nL : Nat} {G0 : gT} {mo : Nat} {A : mA} {σ : mS} (X : gC K p s m args meth c cc nL "KalmanQuayModel") (hM : mH K mo A σ G0 H) (hdg : decode cc pc = .ok (.getfield 130, 3)) (kk : W p l e R s m args below meth c H locs cells slots Q (F0 m (pc + 3) ls (.int (nI (mn σ 15)) :: rest))) : W p l e R s m args below meth c H locs cells slots Q (F0 m pc ls (.ref mo :: rest)) := by
  obtain ⟨G, hR, hG, hF⟩ := hM
  exact g_get X hG (hR 0 _ _ rfl) (ci := 1) rfl in_X2 15 (by decide) q1297 (fun _ h => h) rfl hdg kk
theorem mp15 {p : Program} {l : Launch} {e : Env} {R : Room} {s : State} {m : MethodId} {args : Array Value} {below : List Frame} {meth : Method} {c : Code} {H : Heap} {locs : List Loc} {cells slots : Nat} {Q : State → Prop} {cc : ByteArray} {pc : Nat} {ls : Array Slot} {rest : List Value} {K : gK} {nL : Nat} {G0 : gT} {mo : Nat} {A : mA} {σ : mS} (X : gC K p s m args meth c cc nL "KalmanQuayModel") (hM : mH K mo A σ G0 H) (hS : va_S (gA K) s.heap H locs) {v : Nat} {x : Int32} (hx : x = nI v) (hdg : decode cc pc = .ok (.putfield 130, 3)) (kk : ∀ (H1 : Heap) (locs1 : List Loc), mH K mo A (sn σ 15 v) G0 H1 → va_S (gA K) s.heap H1 locs1 → W p l e R s m args below meth c H1 locs1 cells slots Q (F0 m (pc + 3) ls rest)) : W p l e R s m args below meth c H locs cells slots Q (F0 m pc ls (.int x :: .ref mo :: rest)) := by
  obtain ⟨G, hR, hG, hF⟩ := hM
  subst hx
  exact g_put X hG hS (hR 0 _ _ rfl) (ci := 1) rfl in_X2 tyX2 tyX2_ok nmX2 15 (by decide) q1297 (fun _ h => h) rfl rfl rfl (fs1 := mFs A (sn σ 15 v)) (by show 15 < 44; decide) rfl hdg (fun H1 locs1 hG1 hS1 => kk H1 locs1 ⟨_, hR.upd (t0 := 0) rfl rfl (fun t ht => mC_fld (σ := σ) (σ1 := sn σ 15 v) rfl t ht), hG1, hF.trans (gF.putO (hR 0 _ _ rfl) (by show (0 : Nat) < 10000; decide))⟩ hS1)
theorem mf5 {p : Program} {l : Launch} {e : Env} {R : Room} {s : State} {m : MethodId} {args : Array Value} {below : List Frame} {meth : Method} {c : Code} {H : Heap} {locs : List Loc} {cells slots : Nat} {Q : State → Prop} {cc : ByteArray} {pc : Nat} {ls : Array Slot} {rest : List Value} {K : gK} {nL : Nat} {G0 : gT} {mo : Nat} {A : mA} {σ : mS} (X : gC K p s m args meth c cc nL "KalmanQuayModel") (hM : mH K mo A σ G0 H) (hdg : decode cc pc = .ok (.getfield 133, 3)) (kk : W p l e R s m args below meth c H locs cells slots Q (F0 m (pc + 3) ls (.int (nI (mn σ 5)) :: rest))) : W p l e R s m args below meth c H locs cells slots Q (F0 m pc ls (.ref mo :: rest)) := by
  obtain ⟨G, hR, hG, hF⟩ := hM
  exact g_get X hG (hR 0 _ _ rfl) (ci := 1) rfl in_X2 5 (by decide) q1287 (fun _ h => h) rfl hdg kk
theorem mp5 {p : Program} {l : Launch} {e : Env} {R : Room} {s : State} {m : MethodId} {args : Array Value} {below : List Frame} {meth : Method} {c : Code} {H : Heap} {locs : List Loc} {cells slots : Nat} {Q : State → Prop} {cc : ByteArray} {pc : Nat} {ls : Array Slot} {rest : List Value} {K : gK} {nL : Nat} {G0 : gT} {mo : Nat} {A : mA} {σ : mS} (X : gC K p s m args meth c cc nL "KalmanQuayModel") (hM : mH K mo A σ G0 H) (hS : va_S (gA K) s.heap H locs) {v : Nat} {x : Int32} (hx : x = nI v) (hdg : decode cc pc = .ok (.putfield 133, 3)) (kk : ∀ (H1 : Heap) (locs1 : List Loc), mH K mo A (sn σ 5 v) G0 H1 → va_S (gA K) s.heap H1 locs1 → W p l e R s m args below meth c H1 locs1 cells slots Q (F0 m (pc + 3) ls rest)) : W p l e R s m args below meth c H locs cells slots Q (F0 m pc ls (.int x :: .ref mo :: rest)) := by
  obtain ⟨G, hR, hG, hF⟩ := hM
  subst hx
  exact g_put X hG hS (hR 0 _ _ rfl) (ci := 1) rfl in_X2 tyX2 tyX2_ok nmX2 5 (by decide) q1287 (fun _ h => h) rfl rfl rfl (fs1 := mFs A (sn σ 5 v)) (by show 5 < 44; decide) rfl hdg (fun H1 locs1 hG1 hS1 => kk H1 locs1 ⟨_, hR.upd (t0 := 0) rfl rfl (fun t ht => mC_fld (σ := σ) (σ1 := sn σ 5 v) rfl t ht), hG1, hF.trans (gF.putO (hR 0 _ _ rfl) (by show (0 : Nat) < 10000; decide))⟩ hS1)
theorem mf36 {p : Program} {l : Launch} {e : Env} {R : Room} {s : State} {m : MethodId} {args : Array Value} {below : List Frame} {meth : Method} {c : Code} {H : Heap} {locs : List Loc} {cells slots : Nat} {Q : State → Prop} {cc : ByteArray} {pc : Nat} {ls : Array Slot} {rest : List Value} {K : gK} {nL : Nat} {G0 : gT} {mo : Nat} {A : mA} {σ : mS} (X : gC K p s m args meth c cc nL "KalmanQuayModel") (hM : mH K mo A σ G0 H) (hdg : decode cc pc = .ok (.getfield 193, 3)) (kk : W p l e R s m args below meth c H locs cells slots Q (F0 m (pc + 3) ls (.int (nI (mn σ 36)) :: rest))) : W p l e R s m args below meth c H locs cells slots Q (F0 m pc ls (.ref mo :: rest)) := by
  obtain ⟨G, hR, hG, hF⟩ := hM
  exact g_get X hG (hR 0 _ _ rfl) (ci := 1) rfl in_X2 36 (by decide) q1318 (fun _ h => h) rfl hdg kk
theorem mp36 {p : Program} {l : Launch} {e : Env} {R : Room} {s : State} {m : MethodId} {args : Array Value} {below : List Frame} {meth : Method} {c : Code} {H : Heap} {locs : List Loc} {cells slots : Nat} {Q : State → Prop} {cc : ByteArray} {pc : Nat} {ls : Array Slot} {rest : List Value} {K : gK} {nL : Nat} {G0 : gT} {mo : Nat} {A : mA} {σ : mS} (X : gC K p s m args meth c cc nL "KalmanQuayModel") (hM : mH K mo A σ G0 H) (hS : va_S (gA K) s.heap H locs) {v : Nat} {x : Int32} (hx : x = nI v) (hdg : decode cc pc = .ok (.putfield 193, 3)) (kk : ∀ (H1 : Heap) (locs1 : List Loc), mH K mo A (sn σ 36 v) G0 H1 → va_S (gA K) s.heap H1 locs1 → W p l e R s m args below meth c H1 locs1 cells slots Q (F0 m (pc + 3) ls rest)) : W p l e R s m args below meth c H locs cells slots Q (F0 m pc ls (.int x :: .ref mo :: rest)) := by
  obtain ⟨G, hR, hG, hF⟩ := hM
  subst hx
  exact g_put X hG hS (hR 0 _ _ rfl) (ci := 1) rfl in_X2 tyX2 tyX2_ok nmX2 36 (by decide) q1318 (fun _ h => h) rfl rfl rfl (fs1 := mFs A (sn σ 36 v)) (by show 36 < 44; decide) rfl hdg (fun H1 locs1 hG1 hS1 => kk H1 locs1 ⟨_, hR.upd (t0 := 0) rfl rfl (fun t ht => mC_fld (σ := σ) (σ1 := sn σ 36 v) rfl t ht), hG1, hF.trans (gF.putO (hR 0 _ _ rfl) (by show (0 : Nat) < 10000; decide))⟩ hS1)
theorem mf39 {p : Program} {l : Launch} {e : Env} {R : Room} {s : State} {m : MethodId} {args : Array Value} {below : List Frame} {meth : Method} {c : Code} {H : Heap} {locs : List Loc} {cells slots : Nat} {Q : State → Prop} {cc : ByteArray} {pc : Nat} {ls : Array Slot} {rest : List Value} {K : gK} {nL : Nat} {G0 : gT} {mo : Nat} {A : mA} {σ : mS} (X : gC K p s m args meth c cc nL "KalmanQuayModel") (hM : mH K mo A σ G0 H) (hdg : decode cc pc = .ok (.getfield 196, 3)) (kk : W p l e R s m args below meth c H locs cells slots Q (F0 m (pc + 3) ls (.int (mz σ 39) :: rest))) : W p l e R s m args below meth c H locs cells slots Q (F0 m pc ls (.ref mo :: rest)) := by
  obtain ⟨G, hR, hG, hF⟩ := hM
  exact g_get X hG (hR 0 _ _ rfl) (ci := 1) rfl in_X2 39 (by decide) q1321 (fun _ h => h) rfl hdg kk
theorem mp39 {p : Program} {l : Launch} {e : Env} {R : Room} {s : State} {m : MethodId} {args : Array Value} {below : List Frame} {meth : Method} {c : Code} {H : Heap} {locs : List Loc} {cells slots : Nat} {Q : State → Prop} {cc : ByteArray} {pc : Nat} {ls : Array Slot} {rest : List Value} {K : gK} {nL : Nat} {G0 : gT} {mo : Nat} {A : mA} {σ : mS} (X : gC K p s m args meth c cc nL "KalmanQuayModel") (hM : mH K mo A σ G0 H) (hS : va_S (gA K) s.heap H locs) {v : Int32} (hdg : decode cc pc = .ok (.putfield 196, 3)) (kk : ∀ (H1 : Heap) (locs1 : List Loc), mH K mo A (sz σ 39 v) G0 H1 → va_S (gA K) s.heap H1 locs1 → W p l e R s m args below meth c H1 locs1 cells slots Q (F0 m (pc + 3) ls rest)) : W p l e R s m args below meth c H locs cells slots Q (F0 m pc ls (.int v :: .ref mo :: rest)) := by
  obtain ⟨G, hR, hG, hF⟩ := hM
  skip
  exact g_put X hG hS (hR 0 _ _ rfl) (ci := 1) rfl in_X2 tyX2 tyX2_ok nmX2 39 (by decide) q1321 (fun _ h => h) rfl rfl rfl (fs1 := mFs A (sz σ 39 v)) (by show 39 < 44; decide) rfl hdg (fun H1 locs1 hG1 hS1 => kk H1 locs1 ⟨_, hR.upd (t0 := 0) rfl rfl (fun t ht => mC_fld (σ := σ) (σ1 := sz σ 39 v) rfl t ht), hG1, hF.trans (gF.putO (hR 0 _ _ rfl) (by show (0 : Nat) < 10000; decide))⟩ hS1)
theorem mf40 {p : Program} {l : Launch} {e : Env} {R : Room} {s : State} {m : MethodId} {args : Array Value} {below : List Frame} {meth : Method} {c : Code} {H : Heap} {locs : List Loc} {cells slots : Nat} {Q : State → Prop} {cc : ByteArray} {pc : Nat} {ls : Array Slot} {rest : List Value} {K : gK} {nL : Nat} {G0 : gT} {mo : Nat} {A : mA} {σ : mS} (X : gC K p s m args meth c cc nL "KalmanQuayModel") (hM : mH K mo A σ G0 H) (hdg : decode cc pc = .ok (.getfield 199, 3)) (kk : W p l e R s m args below meth c H locs cells slots Q (F0 m (pc + 3) ls (.long (ml σ 40) :: rest))) : W p l e R s m args below meth c H locs cells slots Q (F0 m pc ls (.ref mo :: rest)) := by
  obtain ⟨G, hR, hG, hF⟩ := hM
  exact g_get X hG (hR 0 _ _ rfl) (ci := 1) rfl in_X2 40 (by decide) q1322 (fun _ h => h) rfl hdg kk
theorem mp40 {p : Program} {l : Launch} {e : Env} {R : Room} {s : State} {m : MethodId} {args : Array Value} {below : List Frame} {meth : Method} {c : Code} {H : Heap} {locs : List Loc} {cells slots : Nat} {Q : State → Prop} {cc : ByteArray} {pc : Nat} {ls : Array Slot} {rest : List Value} {K : gK} {nL : Nat} {G0 : gT} {mo : Nat} {A : mA} {σ : mS} (X : gC K p s m args meth c cc nL "KalmanQuayModel") (hM : mH K mo A σ G0 H) (hS : va_S (gA K) s.heap H locs) {v : Int64} (hdg : decode cc pc = .ok (.putfield 199, 3)) (kk : ∀ (H1 : Heap) (locs1 : List Loc), mH K mo A (sl σ 40 v) G0 H1 → va_S (gA K) s.heap H1 locs1 → W p l e R s m args below meth c H1 locs1 cells slots Q (F0 m (pc + 3) ls rest)) : W p l e R s m args below meth c H locs cells slots Q (F0 m pc ls (.long v :: .ref mo :: rest)) := by
  obtain ⟨G, hR, hG, hF⟩ := hM
  skip
  exact g_put X hG hS (hR 0 _ _ rfl) (ci := 1) rfl in_X2 tyX2 tyX2_ok nmX2 40 (by decide) q1322 (fun _ h => h) rfl rfl rfl (fs1 := mFs A (sl σ 40 v)) (by show 40 < 44; decide) rfl hdg (fun H1 locs1 hG1 hS1 => kk H1 locs1 ⟨_, hR.upd (t0 := 0) rfl rfl (fun t ht => mC_fld (σ := σ) (σ1 := sl σ 40 v) rfl t ht), hG1, hF.trans (gF.putO (hR 0 _ _ rfl) (by show (0 : Nat) < 10000; decide))⟩ hS1)
theorem mf34 {p : Program} {l : Launch} {e : Env} {R : Room} {s : State} {m : MethodId} {args : Array Value} {below : List Frame} {meth : Method} {c : Code} {H : Heap} {locs : List Loc} {cells slots : Nat} {Q : State → Prop} {cc : ByteArray} {pc : Nat} {ls : Array Slot} {rest : List Value} {K : gK} {nL : Nat} {G0 : gT} {mo : Nat} {A : mA} {σ : mS} (X : gC K p s m args meth c cc nL "KalmanQuayModel") (hM : mH K mo A σ G0 H) (hdg : decode cc pc = .ok (.getfield 203, 3)) (kk : W p l e R s m args below meth c H locs cells slots Q (F0 m (pc + 3) ls (.int (nI (mn σ 34)) :: rest))) : W p l e R s m args below meth c H locs cells slots Q (F0 m pc ls (.ref mo :: rest)) := by
  obtain ⟨G, hR, hG, hF⟩ := hM
  exact g_get X hG (hR 0 _ _ rfl) (ci := 1) rfl in_X2 34 (by decide) q1316 (fun _ h => h) rfl hdg kk
theorem mp34 {p : Program} {l : Launch} {e : Env} {R : Room} {s : State} {m : MethodId} {args : Array Value} {below : List Frame} {meth : Method} {c : Code} {H : Heap} {locs : List Loc} {cells slots : Nat} {Q : State → Prop} {cc : ByteArray} {pc : Nat} {ls : Array Slot} {rest : List Value} {K : gK} {nL : Nat} {G0 : gT} {mo : Nat} {A : mA} {σ : mS} (X : gC K p s m args meth c cc nL "KalmanQuayModel") (hM : mH K mo A σ G0 H) (hS : va_S (gA K) s.heap H locs) {v : Nat} {x : Int32} (hx : x = nI v) (hdg : decode cc pc = .ok (.putfield 203, 3)) (kk : ∀ (H1 : Heap) (locs1 : List Loc), mH K mo A (sn σ 34 v) G0 H1 → va_S (gA K) s.heap H1 locs1 → W p l e R s m args below meth c H1 locs1 cells slots Q (F0 m (pc + 3) ls rest)) : W p l e R s m args below meth c H locs cells slots Q (F0 m pc ls (.int x :: .ref mo :: rest)) := by
  obtain ⟨G, hR, hG, hF⟩ := hM
  subst hx
  exact g_put X hG hS (hR 0 _ _ rfl) (ci := 1) rfl in_X2 tyX2 tyX2_ok nmX2 34 (by decide) q1316 (fun _ h => h) rfl rfl rfl (fs1 := mFs A (sn σ 34 v)) (by show 34 < 44; decide) rfl hdg (fun H1 locs1 hG1 hS1 => kk H1 locs1 ⟨_, hR.upd (t0 := 0) rfl rfl (fun t ht => mC_fld (σ := σ) (σ1 := sn σ 34 v) rfl t ht), hG1, hF.trans (gF.putO (hR 0 _ _ rfl) (by show (0 : Nat) < 10000; decide))⟩ hS1)
theorem mf41 {p : Program} {l : Launch} {e : Env} {R : Room} {s : State} {m : MethodId} {args : Array Value} {below : List Frame} {meth : Method} {c : Code} {H : Heap} {locs : List Loc} {cells slots : Nat} {Q : State → Prop} {cc : ByteArray} {pc : Nat} {ls : Array Slot} {rest : List Value} {K : gK} {nL : Nat} {G0 : gT} {mo : Nat} {A : mA} {σ : mS} (X : gC K p s m args meth c cc nL "KalmanQuayModel") (hM : mH K mo A σ G0 H) (hdg : decode cc pc = .ok (.getfield 255, 3)) (kk : W p l e R s m args below meth c H locs cells slots Q (F0 m (pc + 3) ls (.long (ml σ 41) :: rest))) : W p l e R s m args below meth c H locs cells slots Q (F0 m pc ls (.ref mo :: rest)) := by
  obtain ⟨G, hR, hG, hF⟩ := hM
  exact g_get X hG (hR 0 _ _ rfl) (ci := 1) rfl in_X2 41 (by decide) q1323 (fun _ h => h) rfl hdg kk
theorem mp41 {p : Program} {l : Launch} {e : Env} {R : Room} {s : State} {m : MethodId} {args : Array Value} {below : List Frame} {meth : Method} {c : Code} {H : Heap} {locs : List Loc} {cells slots : Nat} {Q : State → Prop} {cc : ByteArray} {pc : Nat} {ls : Array Slot} {rest : List Value} {K : gK} {nL : Nat} {G0 : gT} {mo : Nat} {A : mA} {σ : mS} (X : gC K p s m args meth c cc nL "KalmanQuayModel") (hM : mH K mo A σ G0 H) (hS : va_S (gA K) s.heap H locs) {v : Int64} (hdg : decode cc pc = .ok (.putfield 255, 3)) (kk : ∀ (H1 : Heap) (locs1 : List Loc), mH K mo A (sl σ 41 v) G0 H1 → va_S (gA K) s.heap H1 locs1 → W p l e R s m args below meth c H1 locs1 cells slots Q (F0 m (pc + 3) ls rest)) : W p l e R s m args below meth c H locs cells slots Q (F0 m pc ls (.long v :: .ref mo :: rest)) := by
  obtain ⟨G, hR, hG, hF⟩ := hM
  skip
  exact g_put X hG hS (hR 0 _ _ rfl) (ci := 1) rfl in_X2 tyX2 tyX2_ok nmX2 41 (by decide) q1323 (fun _ h => h) rfl rfl rfl (fs1 := mFs A (sl σ 41 v)) (by show 41 < 44; decide) rfl hdg (fun H1 locs1 hG1 hS1 => kk H1 locs1 ⟨_, hR.upd (t0 := 0) rfl rfl (fun t ht => mC_fld (σ := σ) (σ1 := sl σ 41 v) rfl t ht), hG1, hF.trans (gF.putO (hR 0 _ _ rfl) (by show (0 : Nat) < 10000; decide))⟩ hS1)
theorem mf42 {p : Program} {l : Launch} {e : Env} {R : Room} {s : State} {m : MethodId} {args : Array Value} {below : List Frame} {meth : Method} {c : Code} {H : Heap} {locs : List Loc} {cells slots : Nat} {Q : State → Prop} {cc : ByteArray} {pc : Nat} {ls : Array Slot} {rest : List Value} {K : gK} {nL : Nat} {G0 : gT} {mo : Nat} {A : mA} {σ : mS} (X : gC K p s m args meth c cc nL "KalmanQuayModel") (hM : mH K mo A σ G0 H) (hdg : decode cc pc = .ok (.getfield 258, 3)) (kk : W p l e R s m args below meth c H locs cells slots Q (F0 m (pc + 3) ls (.long (ml σ 42) :: rest))) : W p l e R s m args below meth c H locs cells slots Q (F0 m pc ls (.ref mo :: rest)) := by
  obtain ⟨G, hR, hG, hF⟩ := hM
  exact g_get X hG (hR 0 _ _ rfl) (ci := 1) rfl in_X2 42 (by decide) q1324 (fun _ h => h) rfl hdg kk
theorem mp42 {p : Program} {l : Launch} {e : Env} {R : Room} {s : State} {m : MethodId} {args : Array Value} {below : List Frame} {meth : Method} {c : Code} {H : Heap} {locs : List Loc} {cells slots : Nat} {Q : State → Prop} {cc : ByteArray} {pc : Nat} {ls : Array Slot} {rest : List Value} {K : gK} {nL : Nat} {G0 : gT} {mo : Nat} {A : mA} {σ : mS} (X : gC K p s m args meth c cc nL "KalmanQuayModel") (hM : mH K mo A σ G0 H) (hS : va_S (gA K) s.heap H locs) {v : Int64} (hdg : decode cc pc = .ok (.putfield 258, 3)) (kk : ∀ (H1 : Heap) (locs1 : List Loc), mH K mo A (sl σ 42 v) G0 H1 → va_S (gA K) s.heap H1 locs1 → W p l e R s m args below meth c H1 locs1 cells slots Q (F0 m (pc + 3) ls rest)) : W p l e R s m args below meth c H locs cells slots Q (F0 m pc ls (.long v :: .ref mo :: rest)) := by
  obtain ⟨G, hR, hG, hF⟩ := hM
  skip
  exact g_put X hG hS (hR 0 _ _ rfl) (ci := 1) rfl in_X2 tyX2 tyX2_ok nmX2 42 (by decide) q1324 (fun _ h => h) rfl rfl rfl (fs1 := mFs A (sl σ 42 v)) (by show 42 < 44; decide) rfl hdg (fun H1 locs1 hG1 hS1 => kk H1 locs1 ⟨_, hR.upd (t0 := 0) rfl rfl (fun t ht => mC_fld (σ := σ) (σ1 := sl σ 42 v) rfl t ht), hG1, hF.trans (gF.putO (hR 0 _ _ rfl) (by show (0 : Nat) < 10000; decide))⟩ hS1)
