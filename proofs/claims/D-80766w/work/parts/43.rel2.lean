/-! the relation of the two states, by groups -/
set_option maxRecDepth 100000
def isum : Nat → (Nat → Int32) → Int32
  | 0, _ => 0
  | n + 1, f => isum n f + f n
def mostF (k : Nat) : Int32 := match k with
  | 0 => 100 | 1 => 5000 | 2 => 5000 | 3 => 5000 | 4 => 20 | 5 => 20 | _ => 0
/-- profiles -/
def RP (np : Nat) (no : Nat → Nat) (T A : Nat → Nat → Int32) (F : Nat → Int32) : Prop :=
  np ≤ 8 ∧ F 1 = Int32.ofNat np ∧ T 8 1 = Int32.ofNat np ∧ ∀ p, p < np →
    (T (64 + 16 * p) 0 = A 2 p ∧ T (64 + 16 * p) 1 = A 3 p ∧ T (64 + 16 * p) 2 = A 4 p ∧ T (64 + 16 * p) 3 = A 5 p) ∧
    (5 ≤ (A 3 p).toInt ∧ (A 3 p).toInt ≤ 80 ∧ 0 ≤ (A 4 p).toInt ∧ 100 ≤ (A 5 p).toInt ∧ (A 5 p).toInt ≤ 9999) ∧
    (no p ≤ 3 ∧ A 20 p = Int32.ofNat (no p) ∧ T (64 + 16 * p + 1) 2 = Int32.ofNat (no p)) ∧
    ∀ k, k < no p → T (64 + 16 * p + 3 + k) 0 = A 21 (3 * p + k) ∧ T (64 + 16 * p + 3 + k) 1 = A 22 (3 * p + k) ∧ 100 ≤ (A 21 (3 * p + k)).toInt ∧ (A 21 (3 * p + k)).toInt ≤ 9000 ∧ 0 ≤ (A 22 (3 * p + k)).toInt ∧ (A 22 (3 * p + k)).toInt ≤ 500
/-- dies, and the tick -/
def RD (c nd np : Nat) (dp : Nat → Nat) (T A : Nat → Nat → Int32) (F : Nat → Int32) : Prop :=
  nd ≤ 12 ∧ F 6 = Int32.ofNat nd ∧ T 8 3 = Int32.ofNat nd ∧ (T 8 4 = F 12 ∧ 0 ≤ (F 12).toInt ∧ (F 12).toInt ≤ 100 * c) ∧ ∀ d, d < nd →
    dp d < np ∧ A 6 d = Int32.ofNat (dp d) ∧ T (200 + d) 1 = Int32.ofNat d ∧ T (200 + d) 2 = A 7 d ∧ T (200 + d) 3 = A 8 d ∧ T (200 + d) 4 = A 9 d ∧
    ((A 10 d = -1 ∧ T (200 + d) 5 = 0) ∨ (A 10 d ≠ -1 ∧ T (200 + d) 5 = 1 ∧ T (200 + d) 6 = A 10 d))
/-- bars and batches -/
def RB (c nb nd : Nat) (bd : Nat → Nat) (T A : Nat → Nat → Int32) (F : Nat → Int32) : Prop :=
  nb ≤ 200 ∧ F 13 = Int32.ofNat nb ∧ T 8 10 = Int32.ofNat nb ∧ (T 8 25 = F 45 ∧ 0 ≤ (F 45).toInt ∧ (F 45).toInt ≤ c) ∧ ∀ i, i < nb →
    (bd i < nd ∧ A 11 i = Int32.ofNat (bd i)) ∧ (T (1000 + i) 1 = A 12 i ∧ T (1000 + i) 2 = A 13 i ∧ T (1000 + i) 3 = A 14 i ∧ T (1000 + i) 4 = A 15 i ∧ T (1000 + i) 5 = A 16 i ∧ T (1000 + i) 6 = A 17 i) ∧
    ((A 18 i = -1 ∧ T (1000 + i) 7 = 0) ∨ (A 18 i = 0 ∧ T (1000 + i) 7 = 2) ∨ (A 18 i = 1 ∧ T (1000 + i) 7 = 1)) ∧
    0 ≤ (A 14 i).toInt ∧ (A 17 i = -1 ∨ (0 ≤ (A 17 i).toInt ∧ (A 17 i).toInt < (F 45).toInt))
/-- accounts and scraps -/
def RA (nb : Nat) (T A : Nat → Nat → Int32) (L : Nat → Int64) : Prop :=
  T 12 0 = (L 0).toInt32 ∧ T 13 0 = (L 1).toInt32 ∧ T 14 0 = (L 2).toInt32 ∧ isum nb (A 14) = (L 3).toInt32 ∧ isum nb (A 15) = (L 4).toInt32 ∧ isum nb (A 13) = (L 5).toInt32 ∧ isum nb (A 12) = (L 6).toInt32 ∧ T 12 2 = 1 ∧ T 13 2 = 2
/-- laws -/
def RL (T A : Nat → Nat → Int32) : Prop := T 1 = mostF ∧ ∀ k, k < 6 → T 11 k = A 1 k ∧ 0 ≤ (A 1 k).toInt ∧ (A 1 k).toInt ≤ (mostF k).toInt
/-- the latest die -/
def RT (nd : Nat) (ld : Option Nat) (T : Nat → Nat → Int32) (F : Nat → Int32) : Prop :=
  (ld = none ∧ F 22 = -1) ∨ ∃ d, d < nd ∧ ld = some (200 + d) ∧ F 22 = Int32.ofNat d ∧ T 8 12 = F 23
/-- stock -/
def RK (ns : Nat) (T A : Nat → Nat → Int32) (F : Nat → Int32) : Prop :=
  ns ≤ 6 ∧ F 35 = Int32.ofNat ns ∧ T 8 16 = Int32.ofNat ns ∧ ∀ k, k < ns → T 17 k = A 24 k ∧ 200 ≤ (A 24 k).toInt ∧ (A 24 k).toInt ≤ 1200
/-- jobs -/
def RJ (nj np : Nat) (jp : Nat → Nat) (T A : Nat → Nat → Int32) (F : Nat → Int32) : Prop :=
  nj ≤ 7 ∧ F 37 = Int32.ofNat nj ∧ T 8 18 = Int32.ofNat nj ∧ (T 8 19 = F 41 ∧ 0 ≤ (F 41).toInt ∧ (F 41).toInt ≤ 20) ∧ ∀ j, j < nj →
    (jp j < np ∧ A 25 j = Int32.ofNat (jp j) ∧ T (24 + j) 0 = A 25 j) ∧ (T (24 + j) 1 = A 26 j ∧ 1 ≤ (A 26 j).toInt ∧ (A 26 j).toInt ≤ 50) ∧ (T (24 + j) 2 = A 27 j ∧ 0 ≤ (A 27 j).toInt ∧ (A 27 j).toInt ≤ 1000)
/-- the room, what was met -/
def RO (T : Nat → Nat → Int32) (F : Nat → Int32) : Prop :=
  T 8 24 = F 44 ∧ 1000 ≤ (F 44).toInt ∧ (F 44).toInt ≤ 1000000 ∧ T 8 27 = F 51
def kof (f : Nat) : Nat := match f with
  | 0 => 12 | 1 => 13 | _ => 11
/-- what a sheet of the form f can hold -/
def fitf (f : Nat) (x : Int32) : Prop := match f with
  | 0 => -128 ≤ x.toInt ∧ x.toInt ≤ 127
  | 1 => -32768 ≤ x.toInt ∧ x.toInt ≤ 32767
  | _ => True
/-- sheets -/
def RS (rw : Nat → Option Nat) (rk : Nat → Nat × Nat) (T A : Nat → Nat → Int32) : Prop :=
  (∀ s, s < 4 → (rw s = none ∧ A 31 s = -1) ∨ ∃ r f z, rw s = some r ∧ 40 ≤ r ∧ r ≤ 44 ∧ f < 3 ∧ A 31 s = Int32.ofNat f ∧ T (32 + s) 0 = Int32.ofNat f ∧ rk r = (kof f, z) ∧ z ≤ 200 ∧ A 32 s = Int32.ofNat z ∧ ∀ i, i < z → T r i = A 33 (200 * s + i) ∧ fitf f (A 33 (200 * s + i))) ∧
  (∀ s t r, s < 4 → t < 4 → rw s = some r → rw t = some r → s = t) ∧ (∀ r, 40 ≤ r → r ≤ 44 → (∀ s, s < 4 → rw s ≠ some r) → (rk r).1 = 0)
def Rel (c np nd nb ns nj : Nat) (no dp bd jp : Nat → Nat) (ld : Option Nat) (rw : Nat → Option Nat) (rk : Nat → Nat × Nat) (T A : Nat → Nat → Int32) (F : Nat → Int32) (L : Nat → Int64) : Prop :=
  RP np no T A F ∧ RD c nd np dp T A F ∧ RB c nb nd bd T A F ∧ RA nb T A L ∧ RL T A ∧ RT nd ld T F ∧ RK ns T A F ∧ RJ nj np jp T A F ∧ RO T F ∧ RS rw rk T A
/-- the two heaps tell of one state, after c calls -/
def Rst (c : Nat) (hx hm : jH) : Prop := ∃ (np nd nb ns nj : Nat) (no dp bd jp : Nat → Nat) (ld : Option Nat) (rw : Nat → Option Nat) (rk : Nat → Nat × Nat) (T A : Nat → Nat → Int32) (F : Nat → Int32) (L : Nat → Int64) (GF : Nat → Int32) (GA : Nat → Nat → Int32),
  hx = lay (kX np nd nb no rk) T (rX np nd nb no dp bd ld rw) ∧ hm = layM F A L GF GA ∧ Rel c np nd nb ns nj no dp bd jp ld rw rk T A F L
/-- a call answers alike, and leaves the two alike -/
def alike {α : Type} (fx fm : jH → Option (α × jH)) : Prop := ∀ (c : Nat) (hx hm : jH), c < 64 → Rst c hx hm → ∃ (r : α) (hx' hm' : jH), fx hx = some (r, hx') ∧ fm hm = some (r, hm') ∧ Rst (c + 1) hx' hm'
