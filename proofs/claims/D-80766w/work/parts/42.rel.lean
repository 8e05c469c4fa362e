/-! what the two heaps have to do with each other -/
set_option maxRecDepth 100000
/-- kinds by name -/
def kfix (rk : Nat → Nat × Nat) (n : Nat) : Nat × Nat := match n with
  | 1 => (11, 6) | 2 => (18, 0) | 8 => (1, 0) | 9 => (14, 8) | 10 => (15, 12) | 11 => (11, 6) | 12 => (2, 0) | 13 => (2, 0) | 14 => (3, 0) | 15 => (16, 200)
  | 16 => (11, 3) | 17 => (11, 6) | 18 => (19, 7) | 19 => (11, 7) | 20 => (11, 7) | 21 => (17, 4)
  | 24 => (11, 3) | 25 => (11, 3) | 26 => (11, 3) | 27 => (11, 3) | 28 => (11, 3) | 29 => (11, 3) | 30 => (11, 3)
  | 32 => (4, 0) | 33 => (4, 0) | 34 => (4, 0) | 35 => (4, 0)
  | 40 => rk 40 | 41 => rk 41 | 42 => rk 42 | 43 => rk 43 | 44 => rk 44
  | _ => (0, 0)
def kpro (np : Nat) (no : Nat → Nat) (p o : Nat) : Nat × Nat :=
  if p < np then (if o = 0 then (5, 0) else if o = 1 then (6, 0) else if o = 2 then (if no p = 0 then (0, 0) else (18, 10)) else if o < 3 + no p then (9, 0) else (0, 0)) else (0, 0)
def kX (np nd nb : Nat) (no : Nat → Nat) (rk : Nat → Nat × Nat) (n : Nat) : Nat × Nat :=
  if n < 64 then kfix rk n else if n < 192 then kpro np no ((n - 64) / 16) ((n - 64) % 16) else if n < 200 then (0, 0) else if n < 1000 then (if n < 200 + nd then (7, 0) else (0, 0)) else if n < 1000 + nb then (8, 0) else (0, 0)
/-- references by name -/
def r8 (ld : Option Nat) (k : Nat) : Option Nat := match k with
  | 0 => some 9 | 2 => some 10 | 5 => some 11 | 6 => some 12 | 7 => some 13 | 8 => some 14 | 9 => some 15 | 11 => ld | 13 => some 16 | 15 => some 17 | 17 => some 18 | 20 => some 19 | 21 => some 20 | 26 => some 21 | _ => none
def rfix (np nd nb : Nat) (ld : Option Nat) (rw : Nat → Option Nat) (n k : Nat) : Option Nat := match n with
  | 8 => r8 ld k
  | 9 => if k < np then some (64 + 16 * k) else none
  | 10 => if k < nd then some (200 + k) else none
  | 12 => if k = 1 ∨ k = 3 then some 8 else none
  | 13 => if k = 1 ∨ k = 3 then some 8 else none
  | 14 => if k = 1 ∨ k = 3 then some 8 else none
  | 15 => if k < nb then some (1000 + k) else none
  | 18 => if k < 7 then some (24 + k) else none
  | 21 => if k < 4 then some (32 + k) else none
  | 32 => if k = 1 then rw 0 else none
  | 33 => if k = 1 then rw 1 else none
  | 34 => if k = 1 then rw 2 else none
  | 35 => if k = 1 then rw 3 else none
  | _ => none
def rpro (np : Nat) (no : Nat → Nat) (p o k : Nat) : Option Nat :=
  if p < np then (if o = 0 then (if k = 4 then some (64 + 16 * p + 1) else none) else if o = 1 then (if k = 1 then (if no p = 0 then some 2 else some (64 + 16 * p + 2)) else none) else if o = 2 then (if k < no p then some (64 + 16 * p + 3 + k) else none) else none) else none
def rX (np nd nb : Nat) (no dp bd : Nat → Nat) (ld : Option Nat) (rw : Nat → Option Nat) (n k : Nat) : Option Nat :=
  if n < 64 then rfix np nd nb ld rw n k else if n < 192 then rpro np no ((n - 64) / 16) ((n - 64) % 16) k else if n < 200 then none else if n < 1000 then (if k = 0 ∧ n < 200 + nd then some (64 + 16 * dp (n - 200)) else none) else if k = 0 then some (200 + bd (n - 1000)) else none
section KX
variable {np nd nb : Nat} {no dp bd : Nat → Nat} {ld : Option Nat} {rw : Nat → Option Nat} {rk : Nat → Nat × Nat}
theorem kX_prof {p : Nat} (h : p < np) (h8 : np ≤ 8) : kX np nd nb no rk (64 + 16 * p) = (5, 0) := by
  unfold kX kpro
  rw [if_neg (by omega), if_pos (by omega), if_pos (by omega), if_pos (by omega)]
theorem kX_list {p : Nat} (h : p < np) (h8 : np ≤ 8) : kX np nd nb no rk (64 + 16 * p + 1) = (6, 0) := by
  unfold kX kpro
  rw [if_neg (by omega), if_pos (by omega), if_pos (by omega), if_neg (by omega), if_pos (by omega)]
theorem kX_elem {p : Nat} (h : p < np) (h8 : np ≤ 8) (hn : no p ≠ 0) : kX np nd nb no rk (64 + 16 * p + 2) = (18, 10) := by
  have e : (64 + 16 * p + 2 - 64) / 16 = p := by omega
  unfold kX kpro
  rw [e, if_neg (by omega), if_pos (by omega), if_pos (by omega), if_neg (by omega), if_neg (by omega), if_pos (by omega), if_neg hn]
theorem kX_ord {p k : Nat} (h : p < np) (h8 : np ≤ 8) (hk : k < no p) (h3 : no p ≤ 3) : kX np nd nb no rk (64 + 16 * p + 3 + k) = (9, 0) := by
  have e : (64 + 16 * p + 3 + k - 64) / 16 = p := by omega
  have e2 : (64 + 16 * p + 3 + k - 64) % 16 = 3 + k := by omega
  unfold kX kpro
  rw [e, e2, if_neg (by omega), if_pos (by omega), if_pos (by omega), if_neg (by omega), if_neg (by omega), if_neg (by omega), if_pos (by omega)]
theorem kX_die {d : Nat} (h : d < nd) (h12 : nd ≤ 12) : kX np nd nb no rk (200 + d) = (7, 0) := by
  unfold kX
  rw [if_neg (by omega), if_neg (by omega), if_neg (by omega), if_pos (by omega), if_pos (by omega)]
theorem kX_bar {i : Nat} (h : i < nb) : kX np nd nb no rk (1000 + i) = (8, 0) := by
  unfold kX
  rw [if_neg (by omega), if_neg (by omega), if_neg (by omega), if_neg (by omega), if_pos (by omega)]
theorem kX_job {j : Nat} (h : j < 7) : kX np nd nb no rk (24 + j) = (11, 3) := by
  match j, h with
  | 0, _ => rfl
  | 1, _ => rfl
  | 2, _ => rfl
  | 3, _ => rfl
  | 4, _ => rfl
  | 5, _ => rfl
  | 6, _ => rfl
theorem kX_sheet {j : Nat} (h : j < 4) : kX np nd nb no rk (32 + j) = (4, 0) := by
  match j, h with
  | 0, _ => rfl
  | 1, _ => rfl
  | 2, _ => rfl
  | 3, _ => rfl
theorem kX_row {r : Nat} (h : 40 ≤ r) (h2 : r ≤ 44) : kX np nd nb no rk r = rk r := by
  have : r = 40 ∨ r = 41 ∨ r = 42 ∨ r = 43 ∨ r = 44 := by omega
  rcases this with rfl | rfl | rfl | rfl | rfl <;> rfl
theorem kX_prof0 {p o : Nat} (h : np ≤ p) (h8 : p < 8) (ho : o < 16) : kX np nd nb no rk (64 + 16 * p + o) = (0, 0) := by
  unfold kX kpro
  rw [if_neg (by omega), if_pos (by omega), if_neg (by omega)]
theorem kX_elem0 {p : Nat} (h8 : p < 8) (hn : no p = 0) : kX np nd nb no rk (64 + 16 * p + 2) = (0, 0) := by
  have e : (64 + 16 * p + 2 - 64) / 16 = p := by omega
  unfold kX kpro
  rw [e, if_neg (by omega), if_pos (by omega)]
  by_cases h : p < np
  · rw [if_pos h, if_neg (by omega), if_neg (by omega), if_pos (by omega), if_pos hn]
  · rw [if_neg h]
theorem kX_ord0 {p k : Nat} (h8 : p < 8) (hk : no p ≤ k) (h3 : k < 13) : kX np nd nb no rk (64 + 16 * p + 3 + k) = (0, 0) := by
  have e : (64 + 16 * p + 3 + k - 64) / 16 = p := by omega
  have e2 : (64 + 16 * p + 3 + k - 64) % 16 = 3 + k := by omega
  unfold kX kpro
  rw [e, e2, if_neg (by omega), if_pos (by omega)]
  by_cases h : p < np
  · rw [if_pos h, if_neg (by omega), if_neg (by omega), if_neg (by omega), if_neg (by omega)]
  · rw [if_neg h]
theorem kX_die0 {d : Nat} (h : nd ≤ d) (h12 : d < 12) : kX np nd nb no rk (200 + d) = (0, 0) := by
  unfold kX
  rw [if_neg (by omega), if_neg (by omega), if_neg (by omega), if_pos (by omega), if_neg (by omega)]
theorem kX_bar0 {i : Nat} (h : nb ≤ i) : kX np nd nb no rk (1000 + i) = (0, 0) := by
  unfold kX
  rw [if_neg (by omega), if_neg (by omega), if_neg (by omega), if_neg (by omega), if_neg (by omega)]
-- references
theorem rX_prof {p : Nat} (h : p < np) (h8 : np ≤ 8) : rX np nd nb no dp bd ld rw (64 + 16 * p) 4 = some (64 + 16 * p + 1) := by
  have e : (64 + 16 * p - 64) / 16 = p := by omega
  unfold rX rpro
  rw [e, if_neg (by omega), if_pos (by omega), if_pos (by omega), if_pos (by omega), if_pos rfl]
theorem rX_list {p : Nat} (h : p < np) (h8 : np ≤ 8) (hn : no p ≠ 0) : rX np nd nb no dp bd ld rw (64 + 16 * p + 1) 1 = some (64 + 16 * p + 2) := by
  have e : (64 + 16 * p + 1 - 64) / 16 = p := by omega
  unfold rX rpro
  rw [e, if_neg (by omega), if_pos (by omega), if_pos (by omega), if_neg (by omega), if_pos (by omega), if_pos rfl, if_neg hn]
theorem rX_list0 {p : Nat} (h : p < np) (h8 : np ≤ 8) (hn : no p = 0) : rX np nd nb no dp bd ld rw (64 + 16 * p + 1) 1 = some 2 := by
  have e : (64 + 16 * p + 1 - 64) / 16 = p := by omega
  unfold rX rpro
  rw [e, if_neg (by omega), if_pos (by omega), if_pos (by omega), if_neg (by omega), if_pos (by omega), if_pos rfl, if_pos hn]
theorem rX_elem {p k : Nat} (h : p < np) (h8 : np ≤ 8) (hk : k < no p) : rX np nd nb no dp bd ld rw (64 + 16 * p + 2) k = some (64 + 16 * p + 3 + k) := by
  have e : (64 + 16 * p + 2 - 64) / 16 = p := by omega
  unfold rX rpro
  rw [e, if_neg (by omega), if_pos (by omega), if_pos (by omega), if_neg (by omega), if_neg (by omega), if_pos (by omega), if_pos hk]
theorem rX_die {d : Nat} (h : d < nd) (h12 : nd ≤ 12) : rX np nd nb no dp bd ld rw (200 + d) 0 = some (64 + 16 * dp d) := by
  unfold rX
  rw [if_neg (by omega), if_neg (by omega), if_neg (by omega), if_pos (by omega), if_pos ⟨rfl, by omega⟩, Nat.add_sub_cancel_left]
theorem rX_bar {i : Nat} : rX np nd nb no dp bd ld rw (1000 + i) 0 = some (200 + bd i) := by
  unfold rX
  rw [if_neg (by omega), if_neg (by omega), if_neg (by omega), if_neg (by omega), if_pos rfl, Nat.add_sub_cancel_left]
theorem rX_9 {k : Nat} (h : k < np) : rX np nd nb no dp bd ld rw 9 k = some (64 + 16 * k) := if_pos h
theorem rX_10 {k : Nat} (h : k < nd) : rX np nd nb no dp bd ld rw 10 k = some (200 + k) := if_pos h
theorem rX_15 {k : Nat} (h : k < nb) : rX np nd nb no dp bd ld rw 15 k = some (1000 + k) := if_pos h
theorem rX_18 {k : Nat} (h : k < 7) : rX np nd nb no dp bd ld rw 18 k = some (24 + k) := if_pos h
theorem rX_21 {k : Nat} (h : k < 4) : rX np nd nb no dp bd ld rw 21 k = some (32 + k) := if_pos h
theorem rX_sheet {s : Nat} (h : s < 4) : rX np nd nb no dp bd ld rw (32 + s) 1 = rw s := by
  match s, h with
  | 0, _ => rfl
  | 1, _ => rfl
  | 2, _ => rfl
  | 3, _ => rfl
end KX
