/-! the reference's methods as functions of its state -/
set_option maxRecDepth 100000
def l_max (x y : Int64) : Int64 := if y < x then x else y
def l_min (x y : Int64) : Int64 := if y < x then y else x
def l_abs (x : Int64) : Int64 := if 0 < x then x else -x
def l_fdiv (x y : Int64) : Int64 := if (x ^^^ y) < 0 ∧ ¬ x / y * y = x then x / y - 1 else x / y
def l_hold (v lo hi : Int64) : Int64 := l_max lo (l_min hi v)
def m_for (f : Nat → mS → mS) : Nat → mS → mS
  | 0, σ => σ
  | n + 1, σ => f n (m_for f n σ)
def m_in (n lo hi : Int32) : Bool := decide (lo ≤ n) && decide (n ≤ hi)
def m_claim (σ : mS) (b : Bool) (k : Nat) : mS := if b = true then σ else sn σ 43 k
def m_first (σ : mS) (b : Bool) : mS := m_claim (sn σ 43 0) b 1
def m_tell (σ : mS) : mS := sn σ 43 0
def m_begin (σ : mS) : mS := m_tell (sn (sn (sn (sn (sn (sn (sn σ 7 0) 8 0) 11 0) 13 0) 14 0) 15 0) 5 0)
def m_okFilter (a b : Int32) : Bool := m_in a 0 4000 && (decide (a - a / 4 * 4 = 0) && m_in b 1 40)
def m_setFilter (σ : mS) (a b : Int32) : mS := if m_okFilter a b = true then sz (sz (m_first σ true) 0 a) 1 b else m_first σ false
def m_okTracks (a b c : Int32) : Bool := m_in a 0 9 && (m_in b 1 5 && m_in c 1 16777216)
def m_setTracks (σ : mS) (a b c : Int32) : mS := if m_okTracks a b c = true then sz (sz (sz (m_first σ true) 2 a) 3 b) 4 c else m_first σ false
def m_addSensor (σ : mS) (v : Int32) : mS :=
  if m_in v 1 65536 = true then
    if mn σ 5 < 4 then sn (sa (m_first σ true) 6 (mn σ 5) v) 5 (mn σ 5 + 1) else m_claim (m_first σ true) false 2
  else m_first σ false
def m_hit (σ : mS) (x z : Int32) : mS :=
  if m_in x 0 (nI (mn σ 5) - 1) = true then
    if m_in z (-100000) 100000 = true then
      if mn σ 8 < 8 ∧ mn σ 7 < 64 then sn (sa (sb (m_first σ true) 9 (mn σ 8) x.toNatClampNeg) 10 (mn σ 8) z) 8 (mn σ 8 + 1)
      else m_claim (m_first σ true) false 3
    else m_claim (m_first σ true) false 2
  else m_first σ false
def m_holdAll (σ : mS) (t : Nat) : mS :=
  let σ := sN σ t 0 (l_hold (mN σ t 0) (-33554432) 33554432)
  let σ := sN σ t 1 (l_hold (mN σ t 1) (-16777216) 16777216)
  let σ := sN σ t 2 (l_hold (mN σ t 2) 1 16777216)
  let σ := sN σ t 3 (l_hold (mN σ t 3) (-16777216) 16777216)
  sN σ t 4 (l_hold (mN σ t 4) 1 16777216)
def m_foretell (σ : mS) (t : Nat) : mS :=
  let a := mN σ t 2
  let b := mN σ t 3
  let c := mN σ t 4
  let σ := sN σ t 0 (mN σ t 0 + mN σ t 1)
  let σ := sN σ t 2 (a + 2 * b + c + (mz σ 0 / 4).toInt64)
  let σ := sN σ t 3 (b + c + (mz σ 0 / 2).toInt64)
  let σ := sN σ t 4 (c + (mz σ 0).toInt64)
  let σ := m_holdAll σ t
  cF σ t (mn σ 7)
def m_spread (σ : mS) (t s : Nat) : Int64 := mN σ t 2 + 256 * (ma σ 6 s).toInt64
def m_apartOf (σ : mS) (t h : Nat) : Int64 := 256 * (ma σ 10 h).toInt64 - mN σ t 0
def m_isInGate (σ : mS) (t h : Nat) : Bool := decide (16 * m_apartOf σ t h * m_apartOf σ t h ≤ (mz σ 1).toInt64 * (mz σ 1).toInt64 * m_spread σ t (mb σ 9 h) * 256)
def m_costOf (σ : mS) (t h : Nat) : Int64 := m_apartOf σ t h * m_apartOf σ t h / m_spread σ t (mb σ 9 h)
def m_free (used : Int32) (i : Nat) : Prop := (used >>> (nI i &&& 31)) &&& 1 = 0
def m_leaf (σ : mS) (pairs : Nat) (cost : Int64) : mS :=
  if mz σ 39 < nI pairs ∨ (nI pairs = mz σ 39 ∧ cost < ml σ 40) then m_for (fun i σ => sa σ 38 i (ma σ 37 i)) (mn σ 36) (sl (sz σ 39 (nI pairs)) 40 cost) else σ
def m_freeB (used : Int32) (i : Nat) : Bool := decide ((used >>> (nI i &&& 31)) &&& 1 = 0)
def m_try : Nat → Nat → Int32 → Nat → Int64 → mS → mS
  | 0, _, _, pairs, cost, σ => m_leaf σ pairs cost
  | r + 1, k, used, pairs, cost, σ =>
    let σ1 := m_for (fun i σ => if m_freeB used i = true ∧ m_isInGate σ (mb σ 35 k) (mb σ 33 i) = true then m_try r (k + 1) (used ||| ((1 : Int32) <<< (nI i &&& 31))) (pairs + 1) (cost + m_costOf (sa σ 37 k (nI (mb σ 33 i))) (mb σ 35 k) (mb σ 33 i)) (sa σ 37 k (nI (mb σ 33 i))) else σ) (mn σ 34) σ
    m_try r (k + 1) used pairs cost (sa σ1 37 k (-1))
def m_w (σ : mS) (h : Nat) : Int64 := l_max 1 (256 / (ma σ 6 (mb σ 9 h)).toInt64)
def m_note (σ : mS) (t h : Nat) : mS :=
  let w := m_w σ h
  let z := (ma σ 10 h).toInt64
  let b := (nI (mn σ 7)).toInt64
  let σ := sb σ 24 t (mb σ 24 t + 1)
  let σ := sj σ 28 t (mj σ 28 t + w)
  let σ := sj σ 29 t (mj σ 29 t + w * b)
  let σ := sj σ 30 t (mj σ 30 t + w * b * b)
  let σ := sj σ 31 t (mj σ 31 t + w * z)
  sj σ 32 t (mj σ 32 t + w * b * z)
def m_correct (σ : mS) (t h : Nat) : mS :=
  let s := m_spread σ t (mb σ 9 h)
  let y := m_apartOf σ t h
  let a := mN σ t 2
  let b := mN σ t 3
  let k := l_fdiv (a * 65536) s
  let m := l_fdiv (b * 65536) s
  let σ := sN σ t 0 (mN σ t 0 + l_fdiv (k * y) 65536)
  let σ := sN σ t 1 (mN σ t 1 + l_fdiv (m * y) 65536)
  let σ := sN σ t 4 (mN σ t 4 - l_fdiv (m * b) 65536)
  let σ := sN σ t 3 (b - l_fdiv (k * b) 65536)
  let σ := sN σ t 2 (a - l_fdiv (k * a) 65536)
  let σ := m_holdAll σ t
  let σ := sc σ 19 t true
  let σ := sa σ 12 h (nI t)
  let σ := sn σ 14 (mn σ 14 + 1)
  m_note σ t h
def m_cand (sensor : Nat) (h : Nat) (σ : mS) : mS := if mb σ 9 h = sensor then sn (sb σ 33 (mn σ 34) h) 34 (mn σ 34 + 1) else σ
def m_seek (t : Nat) (σ : mS) : mS := if mc σ 16 t = true ∧ mc σ 18 t = false then sn (sb σ 35 (mn σ 36) t) 36 (mn σ 36 + 1) else σ
def m_corr (k : Nat) (σ : mS) : mS := if ma σ 38 k = -1 then σ else m_correct σ (mb σ 35 k) (ma σ 38 k).toNatClampNeg
def m_lists (σ : mS) (sensor : Nat) : mS :=
  let σ := m_for (m_cand sensor) (mn σ 11) (sn σ 34 0)
  m_for m_seek (mn σ 15) (sn σ 36 0)
def m_best (σ : mS) : mS := m_try (mn σ 36) 0 0 0 0 (sl (sz σ 39 (-1)) 40 0)
def m_assign (σ : mS) (sensor : Nat) : mS :=
  let σ := m_best (m_lists σ sensor)
  m_for m_corr (mn σ 36) σ
def m_cnt (p : Nat → Bool) : Nat → Nat
  | 0 => 0
  | n + 1 => if p n = true then m_cnt p n + 1 else m_cnt p n
def m_alive (σ : mS) : Nat := m_cnt (mc σ 16) (mn σ 15)
def m_beginTrack (σ : mS) (h : Nat) : mS :=
  let t := mn σ 15
  let σ := sn σ 15 (mn σ 15 + 1)
  let σ := sN σ t 0 (256 * (ma σ 10 h).toInt64)
  let σ := sN σ t 1 0
  let σ := sN σ t 2 (256 * (ma σ 6 (mb σ 9 h)).toInt64)
  let σ := sN σ t 3 0
  let σ := sN σ t 4 (mz σ 4).toInt64
  let σ := m_holdAll σ t
  let σ := cF σ t (mn σ 7)
  let σ := sc σ 16 t true
  let σ := sc σ 17 t false
  let σ := sc σ 18 t true
  let σ := sb σ 20 t (mn σ 7)
  let σ := sb σ 22 t 1
  let σ := sb σ 23 t 0
  let σ := sb σ 24 t 0
  let σ := sj σ 28 t 0
  let σ := sj σ 29 t 0
  let σ := sj σ 30 t 0
  let σ := sj σ 31 t 0
  let σ := sj σ 32 t 0
  let σ := m_note σ t h
  sa σ 12 h (nI t)
def m_endAge (σ : mS) (t : Nat) : mS :=
  if mc σ 18 t = true then σ else
    let σ := sb σ 22 t (if mc σ 19 t = true then mb σ 22 t + 1 else mb σ 22 t)
    let σ := sb σ 23 t (if mc σ 19 t = true then 0 else mb σ 23 t + 1)
    sc σ 16 t (decide (nI (mb σ 23 t) ≤ mz σ 2))
def m_endBeat (σ : mS) (t : Nat) : mS :=
  let σ := cB σ t (mn σ 7)
  let σ := sb σ 21 t (mn σ 7)
  let σ := m_endAge σ t
  sc σ 17 t (mc σ 17 t || (mc σ 16 t && decide (mz σ 3 ≤ nI (mb σ 22 t))))
def m_d1 (t : Nat) (σ : mS) : mS :=
  let σ := sc (sc σ 18 t false) 19 t false
  if mc σ 16 t = true then m_foretell σ t else σ
def m_d2 (h : Nat) (σ : mS) : mS := sa σ 12 h (-1)
def m_d3 (s : Nat) (σ : mS) : mS := m_assign σ s
def m_d4 (h : Nat) (σ : mS) : mS := if ma σ 12 h = -1 ∧ m_alive σ < 6 ∧ mn σ 15 < 40 then m_beginTrack σ h else σ
def m_d5 (t : Nat) (σ : mS) : mS := if mc σ 16 t = true then m_endBeat σ t else σ
def m_doBeat (σ : mS) : mS :=
  let σ := sn σ 11 (mn σ 8)
  let σ := m_for m_d1 (mn σ 15) σ
  let σ := m_for m_d2 (mn σ 11) σ
  let σ := m_for m_d3 (mn σ 5) σ
  let σ := m_for m_d4 (mn σ 11) σ
  let σ := m_for m_d5 (mn σ 15) σ
  let σ := sn σ 13 (mn σ 13 + mn σ 11)
  let σ := sn σ 8 0
  sn σ 7 (mn σ 7 + 1)
def m_beat (σ : mS) : mS := if mn σ 7 < 64 then m_doBeat (m_first σ true) else m_first σ false
def m_beats (σ : mS) (n : Int32) : mS :=
  if m_in n 1 10 = true then
    if nI (mn σ 7) + n ≤ 64 then m_for (fun _ σ => m_doBeat σ) n.toNatClampNeg (m_first σ true) else m_claim (m_first σ true) false 2
  else m_first σ false
def m_tr (σ : mS) (t : Int32) : Bool := m_in t 0 (nI (mn σ 15) - 1)
def m_bt (σ : mS) (t b : Int32) : Bool := m_tr σ t && m_in b (nI (mb σ 20 t.toNatClampNeg)) (nI (mb σ 21 t.toNatClampNeg))
def m_back (σ : mS) (t k : Nat) : mS :=
  let a := mB σ t k 2
  let b := mB σ t k 3
  let c := mB σ t k 4
  let p := mF σ t (k + 1) 2
  let o := mF σ t (k + 1) 3
  let n := mF σ t (k + 1) 4
  let d := p * n - o * o
  let dx := ml σ 41 - mF σ t (k + 1) 0
  let dv := ml σ 42 - mF σ t (k + 1) 1
  let σ := sl σ 41 (mB σ t k 0)
  let σ := sl σ 42 (mB σ t k 1)
  if 0 < d then
    let e := l_fdiv (((a + b) * n - b * o) * 4096) d
    let f := l_fdiv ((b * p - (a + b) * o) * 4096) d
    let g := l_fdiv (((b + c) * n - c * o) * 4096) d
    let h := l_fdiv ((c * p - (b + c) * o) * 4096) d
    let σ := sl σ 41 (ml σ 41 + l_fdiv (e * dx + f * dv) 4096)
    sl σ 42 (ml σ 42 + l_fdiv (g * dx + h * dv) 4096)
  else σ
def m_smooth (σ : mS) (t b : Nat) : mS :=
  let e := mb σ 21 t
  m_for (fun j σ => m_back σ t (e - 1 - j)) (e - b) (sl (sl σ 41 (mB σ t e 0)) 42 (mB σ t e 1))
def m_bend (t : Nat) : Nat → mS × Int64 → mS × Int64
  | 0, q => q
  | n + 1, q =>
    let q := m_bend t n q
    let b := mb q.1 20 t + n
    let σ := m_smooth q.1 t b
    (σ, l_max q.2 (l_abs (ml σ 41 - mB σ t b 0)))
def m_under (σ : mS) (t : Nat) : Int64 := mj σ 28 t * mj σ 30 t - mj σ 29 t * mj σ 29 t
def m_speedBy (σ : mS) (t : Nat) : Int64 := if m_under σ t = 0 then 0 else l_fdiv ((mj σ 28 t * mj σ 32 t - mj σ 29 t * mj σ 31 t) * 256) (m_under σ t)
def m_placeBy (σ : mS) (t : Nat) : Int64 := if m_under σ t = 0 then l_fdiv (mj σ 31 t * 256) (mj σ 28 t) else l_fdiv (mj σ 31 t * 256 + (mj σ 28 t * (nI (mb σ 21 t)).toInt64 - mj σ 29 t) * m_speedBy σ t) (mj σ 28 t)
def m_near (σ : mS) (pl : Int32) : Nat → Int32
  | 0 => -1
  | t + 1 => if (mc σ 16 t = true ∧ mc σ 17 t = true) ∧ (m_near σ pl t = -1 ∨ l_abs (mN σ t 0 - 256 * pl.toInt64) < l_abs (mN σ (m_near σ pl t).toNatClampNeg 0 - 256 * pl.toInt64)) then nI t else m_near σ pl t
def m_sum (f : Nat → Nat) : Nat → Nat
  | 0 => 0
  | n + 1 => m_sum f n + f n
def m_len (σ : mS) (t : Nat) : Nat := mb σ 21 t - mb σ 20 t + 1
