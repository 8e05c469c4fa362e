/-! the component's heap out of kinds K, ints T, references R (printed by gen/layX.py) -/
set_option maxRecDepth 100000
def tu (T : Nat → Nat → Int32) (a k : Nat) (v : Int32) : Nat → Nat → Int32 := fun n j => if n = a ∧ j = k then v else T n j
def ru (R : Nat → Nat → Option Nat) (a k : Nat) (v : Option Nat) : Nat → Nat → Option Nat := fun n j => if n = a ∧ j = k then v else R n j
theorem tu_eq (T : Nat → Nat → Int32) (a k : Nat) (v : Int32) : va_up T a (upd (T a) k v) = tu T a k v := by
  funext n j
  unfold va_up upd tu
  by_cases h : n = a
  · subst h; simp
  · simp [h]
theorem ru_eq (R : Nat → Nat → Option Nat) (a k : Nat) (v : Option Nat) : va_up R a (va_up (R a) k v) = ru R a k v := by
  funext n j
  unfold va_up ru
  by_cases h : n = a
  · subst h; simp
  · simp [h]
theorem tu_at (T : Nat → Nat → Int32) (a k : Nat) (v : Int32) : tu T a k v a k = v := by simp [tu]
theorem tu_ne (T : Nat → Nat → Int32) {a k n : Nat} (j : Nat) (v : Int32) (h : n ≠ a) : tu T a k v n j = T n j := by simp [tu, h]
theorem tu_nk (T : Nat → Nat → Int32) {a k j : Nat} (n : Nat) (v : Int32) (h : j ≠ k) : tu T a k v n j = T n j := by simp [tu, h]
def cel (k : Nat × Nat) (f : Nat → Int32) (r : Nat → Option Nat) : Option jO := match k.1 with
  | 0 => none
  | 1 => some (.inr (0, [va_rf (r 0), .int (f 1), va_rf (r 2), .int (f 3), .int (f 4), va_rf (r 5), va_rf (r 6), va_rf (r 7), va_rf (r 8), va_rf (r 9), .int (f 10), va_rf (r 11), .int (f 12), va_rf (r 13), .int (f 14), va_rf (r 15), .int (f 16), va_rf (r 17), .int (f 18), .int (f 19), va_rf (r 20), va_rf (r 21), .int (f 22), .int (f 23), .int (f 24), .int (f 25), va_rf (r 26), .int (f 27)]))
  | 2 => some (.inr (1, [.int (f 0), va_rf (r 1), .int (f 2), va_rf (r 3)]))
  | 3 => some (.inr (2, [.int (f 0), va_rf (r 1), .int (f 2), va_rf (r 3)]))
  | 4 => some (.inr (3, [.int (f 0), va_rf (r 1)]))
  | 5 => some (.inr (4, [.int (f 0), .int (f 1), .int (f 2), .int (f 3), va_rf (r 4)]))
  | 6 => some (.inr (5, [.int (f 0), va_rf (r 1), .int (f 2)]))
  | 7 => some (.inr (6, [va_rf (r 0), .int (f 1), .int (f 2), .int (f 3), .int (f 4), .int (f 5), .int (f 6)]))
  | 8 => some (.inr (7, [va_rf (r 0), .int (f 1), .int (f 2), .int (f 3), .int (f 4), .int (f 5), .int (f 6), .int (f 7)]))
  | 9 => some (.inr (8, [.int (f 0), .int (f 1)]))
  | 11 => some (.inl (.int, k.2, .inl f))
  | 12 => some (.inl (.byte, k.2, .inl f))
  | 13 => some (.inl (.short, k.2, .inl f))
  | 14 => some (.inl (.object "BilletBars$Profile", k.2, .inr (.inr (.inr (.inr r)))))
  | 15 => some (.inl (.object "BilletBars$Die", k.2, .inr (.inr (.inr (.inr r)))))
  | 16 => some (.inl (.object "BilletBars$Bar", k.2, .inr (.inr (.inr (.inr r)))))
  | 17 => some (.inl (.object "BilletBars$Sheet", k.2, .inr (.inr (.inr (.inr r)))))
  | 18 => some (.inl (.object "java/lang/Object", k.2, .inr (.inr (.inr (.inr r)))))
  | 19 => some (.inl (.array .int, k.2, .inr (.inr (.inr (.inr r)))))
  | _ => none
def lay (K : Nat → Nat × Nat) (T : Nat → Nat → Int32) (R : Nat → Nat → Option Nat) : jH := fun n => cel (K n) (T n) (R n)
theorem lx_c0 {K : Nat → Nat × Nat} {T : Nat → Nat → Int32} {R : Nat → Nat → Option Nat} {a : Nat} (h : (K a).1 = 1) : lay K T R a = some (.inr (0, [va_rf (R a 0), .int (T a 1), va_rf (R a 2), .int (T a 3), .int (T a 4), va_rf (R a 5), va_rf (R a 6), va_rf (R a 7), va_rf (R a 8), va_rf (R a 9), .int (T a 10), va_rf (R a 11), .int (T a 12), va_rf (R a 13), .int (T a 14), va_rf (R a 15), .int (T a 16), va_rf (R a 17), .int (T a 18), .int (T a 19), va_rf (R a 20), va_rf (R a 21), .int (T a 22), .int (T a 23), .int (T a 24), .int (T a 25), va_rf (R a 26), .int (T a 27)])) := by
  unfold lay cel
  rw [h]
  rfl
theorem lx_c1 {K : Nat → Nat × Nat} {T : Nat → Nat → Int32} {R : Nat → Nat → Option Nat} {a : Nat} (h : (K a).1 = 2) : lay K T R a = some (.inr (1, [.int (T a 0), va_rf (R a 1), .int (T a 2), va_rf (R a 3)])) := by
  unfold lay cel
  rw [h]
  rfl
theorem lx_c2 {K : Nat → Nat × Nat} {T : Nat → Nat → Int32} {R : Nat → Nat → Option Nat} {a : Nat} (h : (K a).1 = 3) : lay K T R a = some (.inr (2, [.int (T a 0), va_rf (R a 1), .int (T a 2), va_rf (R a 3)])) := by
  unfold lay cel
  rw [h]
  rfl
theorem lx_c3 {K : Nat → Nat × Nat} {T : Nat → Nat → Int32} {R : Nat → Nat → Option Nat} {a : Nat} (h : (K a).1 = 4) : lay K T R a = some (.inr (3, [.int (T a 0), va_rf (R a 1)])) := by
  unfold lay cel
  rw [h]
  rfl
theorem lx_c4 {K : Nat → Nat × Nat} {T : Nat → Nat → Int32} {R : Nat → Nat → Option Nat} {a : Nat} (h : (K a).1 = 5) : lay K T R a = some (.inr (4, [.int (T a 0), .int (T a 1), .int (T a 2), .int (T a 3), va_rf (R a 4)])) := by
  unfold lay cel
  rw [h]
  rfl
theorem lx_c5 {K : Nat → Nat × Nat} {T : Nat → Nat → Int32} {R : Nat → Nat → Option Nat} {a : Nat} (h : (K a).1 = 6) : lay K T R a = some (.inr (5, [.int (T a 0), va_rf (R a 1), .int (T a 2)])) := by
  unfold lay cel
  rw [h]
  rfl
theorem lx_c6 {K : Nat → Nat × Nat} {T : Nat → Nat → Int32} {R : Nat → Nat → Option Nat} {a : Nat} (h : (K a).1 = 7) : lay K T R a = some (.inr (6, [va_rf (R a 0), .int (T a 1), .int (T a 2), .int (T a 3), .int (T a 4), .int (T a 5), .int (T a 6)])) := by
  unfold lay cel
  rw [h]
  rfl
theorem lx_c7 {K : Nat → Nat × Nat} {T : Nat → Nat → Int32} {R : Nat → Nat → Option Nat} {a : Nat} (h : (K a).1 = 8) : lay K T R a = some (.inr (7, [va_rf (R a 0), .int (T a 1), .int (T a 2), .int (T a 3), .int (T a 4), .int (T a 5), .int (T a 6), .int (T a 7)])) := by
  unfold lay cel
  rw [h]
  rfl
theorem lx_c8 {K : Nat → Nat × Nat} {T : Nat → Nat → Int32} {R : Nat → Nat → Option Nat} {a : Nat} (h : (K a).1 = 9) : lay K T R a = some (.inr (8, [.int (T a 0), .int (T a 1)])) := by
  unfold lay cel
  rw [h]
  rfl
theorem lx_c11 {K : Nat → Nat × Nat} {T : Nat → Nat → Int32} {R : Nat → Nat → Option Nat} {a : Nat} (h : (K a).1 = 11) : lay K T R a = some (.inl (.int, (K a).2, .inl (T a))) := by
  unfold lay cel
  rw [h]
  rfl
theorem lx_c12 {K : Nat → Nat × Nat} {T : Nat → Nat → Int32} {R : Nat → Nat → Option Nat} {a : Nat} (h : (K a).1 = 12) : lay K T R a = some (.inl (.byte, (K a).2, .inl (T a))) := by
  unfold lay cel
  rw [h]
  rfl
theorem lx_c13 {K : Nat → Nat × Nat} {T : Nat → Nat → Int32} {R : Nat → Nat → Option Nat} {a : Nat} (h : (K a).1 = 13) : lay K T R a = some (.inl (.short, (K a).2, .inl (T a))) := by
  unfold lay cel
  rw [h]
  rfl
theorem lx_c14 {K : Nat → Nat × Nat} {T : Nat → Nat → Int32} {R : Nat → Nat → Option Nat} {a : Nat} (h : (K a).1 = 14) : lay K T R a = some (.inl (.object "BilletBars$Profile", (K a).2, .inr (.inr (.inr (.inr (R a)))))) := by
  unfold lay cel
  rw [h]
  rfl
theorem lx_c15 {K : Nat → Nat × Nat} {T : Nat → Nat → Int32} {R : Nat → Nat → Option Nat} {a : Nat} (h : (K a).1 = 15) : lay K T R a = some (.inl (.object "BilletBars$Die", (K a).2, .inr (.inr (.inr (.inr (R a)))))) := by
  unfold lay cel
  rw [h]
  rfl
theorem lx_c16 {K : Nat → Nat × Nat} {T : Nat → Nat → Int32} {R : Nat → Nat → Option Nat} {a : Nat} (h : (K a).1 = 16) : lay K T R a = some (.inl (.object "BilletBars$Bar", (K a).2, .inr (.inr (.inr (.inr (R a)))))) := by
  unfold lay cel
  rw [h]
  rfl
theorem lx_c17 {K : Nat → Nat × Nat} {T : Nat → Nat → Int32} {R : Nat → Nat → Option Nat} {a : Nat} (h : (K a).1 = 17) : lay K T R a = some (.inl (.object "BilletBars$Sheet", (K a).2, .inr (.inr (.inr (.inr (R a)))))) := by
  unfold lay cel
  rw [h]
  rfl
theorem lx_c18 {K : Nat → Nat × Nat} {T : Nat → Nat → Int32} {R : Nat → Nat → Option Nat} {a : Nat} (h : (K a).1 = 18) : lay K T R a = some (.inl (.object "java/lang/Object", (K a).2, .inr (.inr (.inr (.inr (R a)))))) := by
  unfold lay cel
  rw [h]
  rfl
theorem lx_c19 {K : Nat → Nat × Nat} {T : Nat → Nat → Int32} {R : Nat → Nat → Option Nat} {a : Nat} (h : (K a).1 = 19) : lay K T R a = some (.inl (.array .int, (K a).2, .inr (.inr (.inr (.inr (R a)))))) := by
  unfold lay cel
  rw [h]
  rfl
theorem lx_set (K : Nat → Nat × Nat) (T : Nat → Nat → Int32) (R : Nat → Nat → Option Nat) (a : Nat) (k : Nat × Nat) (f : Nat → Int32) (r : Nat → Option Nat) {o : jO} (ho : cel k f r = some o) : jset (lay K T R) a o = lay (va_up K a k) (va_up T a f) (va_up R a r) := by
  funext n
  unfold jset lay va_up
  by_cases h : n = a
  · simp only [h, if_true]; exact ho.symm
  · simp only [h, if_false]
theorem lx_setT (K : Nat → Nat × Nat) (T : Nat → Nat → Int32) (R : Nat → Nat → Option Nat) (a : Nat) (f : Nat → Int32) {o : jO} (ho : cel (K a) f (R a) = some o) : jset (lay K T R) a o = lay K (va_up T a f) R := by
  rw [lx_set K T R a (K a) f (R a) ho]
  congr 1
  · funext n; unfold va_up; by_cases h : n = a <;> simp [h]
  · funext n; unfold va_up; by_cases h : n = a <;> simp [h]
theorem lx_setR (K : Nat → Nat × Nat) (T : Nat → Nat → Int32) (R : Nat → Nat → Option Nat) (a : Nat) (r : Nat → Option Nat) {o : jO} (ho : cel (K a) (T a) r = some o) : jset (lay K T R) a o = lay K T (va_up R a r) := by
  rw [lx_set K T R a (K a) (T a) r ho]
  congr 1
  · funext n; unfold va_up; by_cases h : n = a <;> simp [h]
  · funext n; unfold va_up; by_cases h : n = a <;> simp [h]
section LX
variable {K : Nat → Nat × Nat} {T : Nat → Nat → Int32} {R : Nat → Nat → Option Nat} {a : Nat}
theorem jgA_rf {hp : jH} {a c k : Nat} {fs : List Value} {r : Option Nat} (h : hp a = some (.inr (c, fs))) (hk : fs[k]? = some (va_rf r)) : jgA hp a c k = r := by
  unfold jgA jgF
  rw [h]
  simp only [if_true]
  rw [hk]
  cases r <;> rfl
theorem jgR_rf {hp : jH} {a c k : Nat} {fs : List Value} {r : Option Nat} (h : hp a = some (.inr (c, fs))) (hk : fs[k]? = some (va_rf r)) : jgR hp a c k = some r := by
  unfold jgR jgF
  rw [h]
  simp only [if_true]
  rw [hk]
  cases r <;> rfl
theorem jgI_of {hp : jH} {a c k : Nat} {fs : List Value} {x : Int32} (h : hp a = some (.inr (c, fs))) (hk : fs[k]? = some (.int x)) : jgI hp a c k = some x := by
  unfold jgI jgF
  rw [h]
  simp only [if_true]
  rw [hk]
theorem jpF_of {hp : jH} {a c k : Nat} {fs : List Value} {v : Value} (h : hp a = some (.inr (c, fs))) (hk : k < fs.length) (h8 : 8 ≤ a) : jpF hp a c k v = some (jset hp a (.inr (c, fs.set k v))) := by
  unfold jpF
  rw [h]
  simp [hk, h8]
theorem jis_of {hp : jH} {a c : Nat} {fs : List Value} (h : hp a = some (.inr (c, fs))) : jis hp a c = some () := by
  unfold jis
  rw [h]
  simp
theorem lx_is0 (h : (K a).1 = 1) : jis (lay K T R) a 0 = some () := jis_of (lx_c0 h)
theorem lx_g0_0 (h : (K a).1 = 1) : jgA (lay K T R) a 0 0 = R a 0 := jgA_rf (lx_c0 h) rfl
theorem lx_r0_0 (h : (K a).1 = 1) : jgR (lay K T R) a 0 0 = some (R a 0) := jgR_rf (lx_c0 h) rfl
theorem lx_p0_0 (h : (K a).1 = 1) (h8 : 8 ≤ a) (b : Nat) : jpF (lay K T R) a 0 0 (.ref b) = some (lay K T (ru R a 0 (some b))) := by
  rw [jpF_of (lx_c0 h) (Nat.le_of_ble_eq_true rfl) h8, lx_setR K T R a (va_up (R a) 0 (some b)) (by unfold cel; rw [h]; rfl), ru_eq]
theorem lx_n0_0 (h : (K a).1 = 1) (h8 : 8 ≤ a) : jpF (lay K T R) a 0 0 .null = some (lay K T (ru R a 0 none)) := by
  rw [jpF_of (lx_c0 h) (Nat.le_of_ble_eq_true rfl) h8, lx_setR K T R a (va_up (R a) 0 none) (by unfold cel; rw [h]; rfl), ru_eq]
theorem lx_g0_1 (h : (K a).1 = 1) : jgI (lay K T R) a 0 1 = some (T a 1) := jgI_of (lx_c0 h) rfl
theorem lx_p0_1 (h : (K a).1 = 1) (h8 : 8 ≤ a) (v : Int32) : jpF (lay K T R) a 0 1 (.int v) = some (lay K (tu T a 1 v) R) := by
  rw [jpF_of (lx_c0 h) (Nat.le_of_ble_eq_true rfl) h8, lx_setT K T R a (upd (T a) 1 v) (by unfold cel; rw [h]; rfl), tu_eq]
theorem lx_g0_2 (h : (K a).1 = 1) : jgA (lay K T R) a 0 2 = R a 2 := jgA_rf (lx_c0 h) rfl
theorem lx_r0_2 (h : (K a).1 = 1) : jgR (lay K T R) a 0 2 = some (R a 2) := jgR_rf (lx_c0 h) rfl
theorem lx_p0_2 (h : (K a).1 = 1) (h8 : 8 ≤ a) (b : Nat) : jpF (lay K T R) a 0 2 (.ref b) = some (lay K T (ru R a 2 (some b))) := by
  rw [jpF_of (lx_c0 h) (Nat.le_of_ble_eq_true rfl) h8, lx_setR K T R a (va_up (R a) 2 (some b)) (by unfold cel; rw [h]; rfl), ru_eq]
theorem lx_n0_2 (h : (K a).1 = 1) (h8 : 8 ≤ a) : jpF (lay K T R) a 0 2 .null = some (lay K T (ru R a 2 none)) := by
  rw [jpF_of (lx_c0 h) (Nat.le_of_ble_eq_true rfl) h8, lx_setR K T R a (va_up (R a) 2 none) (by unfold cel; rw [h]; rfl), ru_eq]
theorem lx_g0_3 (h : (K a).1 = 1) : jgI (lay K T R) a 0 3 = some (T a 3) := jgI_of (lx_c0 h) rfl
theorem lx_p0_3 (h : (K a).1 = 1) (h8 : 8 ≤ a) (v : Int32) : jpF (lay K T R) a 0 3 (.int v) = some (lay K (tu T a 3 v) R) := by
  rw [jpF_of (lx_c0 h) (Nat.le_of_ble_eq_true rfl) h8, lx_setT K T R a (upd (T a) 3 v) (by unfold cel; rw [h]; rfl), tu_eq]
theorem lx_g0_4 (h : (K a).1 = 1) : jgI (lay K T R) a 0 4 = some (T a 4) := jgI_of (lx_c0 h) rfl
theorem lx_p0_4 (h : (K a).1 = 1) (h8 : 8 ≤ a) (v : Int32) : jpF (lay K T R) a 0 4 (.int v) = some (lay K (tu T a 4 v) R) := by
  rw [jpF_of (lx_c0 h) (Nat.le_of_ble_eq_true rfl) h8, lx_setT K T R a (upd (T a) 4 v) (by unfold cel; rw [h]; rfl), tu_eq]
theorem lx_g0_5 (h : (K a).1 = 1) : jgA (lay K T R) a 0 5 = R a 5 := jgA_rf (lx_c0 h) rfl
theorem lx_r0_5 (h : (K a).1 = 1) : jgR (lay K T R) a 0 5 = some (R a 5) := jgR_rf (lx_c0 h) rfl
theorem lx_p0_5 (h : (K a).1 = 1) (h8 : 8 ≤ a) (b : Nat) : jpF (lay K T R) a 0 5 (.ref b) = some (lay K T (ru R a 5 (some b))) := by
  rw [jpF_of (lx_c0 h) (Nat.le_of_ble_eq_true rfl) h8, lx_setR K T R a (va_up (R a) 5 (some b)) (by unfold cel; rw [h]; rfl), ru_eq]
theorem lx_n0_5 (h : (K a).1 = 1) (h8 : 8 ≤ a) : jpF (lay K T R) a 0 5 .null = some (lay K T (ru R a 5 none)) := by
  rw [jpF_of (lx_c0 h) (Nat.le_of_ble_eq_true rfl) h8, lx_setR K T R a (va_up (R a) 5 none) (by unfold cel; rw [h]; rfl), ru_eq]
theorem lx_g0_6 (h : (K a).1 = 1) : jgA (lay K T R) a 0 6 = R a 6 := jgA_rf (lx_c0 h) rfl
theorem lx_r0_6 (h : (K a).1 = 1) : jgR (lay K T R) a 0 6 = some (R a 6) := jgR_rf (lx_c0 h) rfl
theorem lx_p0_6 (h : (K a).1 = 1) (h8 : 8 ≤ a) (b : Nat) : jpF (lay K T R) a 0 6 (.ref b) = some (lay K T (ru R a 6 (some b))) := by
  rw [jpF_of (lx_c0 h) (Nat.le_of_ble_eq_true rfl) h8, lx_setR K T R a (va_up (R a) 6 (some b)) (by unfold cel; rw [h]; rfl), ru_eq]
theorem lx_n0_6 (h : (K a).1 = 1) (h8 : 8 ≤ a) : jpF (lay K T R) a 0 6 .null = some (lay K T (ru R a 6 none)) := by
  rw [jpF_of (lx_c0 h) (Nat.le_of_ble_eq_true rfl) h8, lx_setR K T R a (va_up (R a) 6 none) (by unfold cel; rw [h]; rfl), ru_eq]
theorem lx_g0_7 (h : (K a).1 = 1) : jgA (lay K T R) a 0 7 = R a 7 := jgA_rf (lx_c0 h) rfl
theorem lx_r0_7 (h : (K a).1 = 1) : jgR (lay K T R) a 0 7 = some (R a 7) := jgR_rf (lx_c0 h) rfl
theorem lx_p0_7 (h : (K a).1 = 1) (h8 : 8 ≤ a) (b : Nat) : jpF (lay K T R) a 0 7 (.ref b) = some (lay K T (ru R a 7 (some b))) := by
  rw [jpF_of (lx_c0 h) (Nat.le_of_ble_eq_true rfl) h8, lx_setR K T R a (va_up (R a) 7 (some b)) (by unfold cel; rw [h]; rfl), ru_eq]
theorem lx_n0_7 (h : (K a).1 = 1) (h8 : 8 ≤ a) : jpF (lay K T R) a 0 7 .null = some (lay K T (ru R a 7 none)) := by
  rw [jpF_of (lx_c0 h) (Nat.le_of_ble_eq_true rfl) h8, lx_setR K T R a (va_up (R a) 7 none) (by unfold cel; rw [h]; rfl), ru_eq]
theorem lx_g0_8 (h : (K a).1 = 1) : jgA (lay K T R) a 0 8 = R a 8 := jgA_rf (lx_c0 h) rfl
theorem lx_r0_8 (h : (K a).1 = 1) : jgR (lay K T R) a 0 8 = some (R a 8) := jgR_rf (lx_c0 h) rfl
theorem lx_p0_8 (h : (K a).1 = 1) (h8 : 8 ≤ a) (b : Nat) : jpF (lay K T R) a 0 8 (.ref b) = some (lay K T (ru R a 8 (some b))) := by
  rw [jpF_of (lx_c0 h) (Nat.le_of_ble_eq_true rfl) h8, lx_setR K T R a (va_up (R a) 8 (some b)) (by unfold cel; rw [h]; rfl), ru_eq]
theorem lx_n0_8 (h : (K a).1 = 1) (h8 : 8 ≤ a) : jpF (lay K T R) a 0 8 .null = some (lay K T (ru R a 8 none)) := by
  rw [jpF_of (lx_c0 h) (Nat.le_of_ble_eq_true rfl) h8, lx_setR K T R a (va_up (R a) 8 none) (by unfold cel; rw [h]; rfl), ru_eq]
theorem lx_g0_9 (h : (K a).1 = 1) : jgA (lay K T R) a 0 9 = R a 9 := jgA_rf (lx_c0 h) rfl
theorem lx_r0_9 (h : (K a).1 = 1) : jgR (lay K T R) a 0 9 = some (R a 9) := jgR_rf (lx_c0 h) rfl
theorem lx_p0_9 (h : (K a).1 = 1) (h8 : 8 ≤ a) (b : Nat) : jpF (lay K T R) a 0 9 (.ref b) = some (lay K T (ru R a 9 (some b))) := by
  rw [jpF_of (lx_c0 h) (Nat.le_of_ble_eq_true rfl) h8, lx_setR K T R a (va_up (R a) 9 (some b)) (by unfold cel; rw [h]; rfl), ru_eq]
theorem lx_n0_9 (h : (K a).1 = 1) (h8 : 8 ≤ a) : jpF (lay K T R) a 0 9 .null = some (lay K T (ru R a 9 none)) := by
  rw [jpF_of (lx_c0 h) (Nat.le_of_ble_eq_true rfl) h8, lx_setR K T R a (va_up (R a) 9 none) (by unfold cel; rw [h]; rfl), ru_eq]
theorem lx_g0_10 (h : (K a).1 = 1) : jgI (lay K T R) a 0 10 = some (T a 10) := jgI_of (lx_c0 h) rfl
theorem lx_p0_10 (h : (K a).1 = 1) (h8 : 8 ≤ a) (v : Int32) : jpF (lay K T R) a 0 10 (.int v) = some (lay K (tu T a 10 v) R) := by
  rw [jpF_of (lx_c0 h) (Nat.le_of_ble_eq_true rfl) h8, lx_setT K T R a (upd (T a) 10 v) (by unfold cel; rw [h]; rfl), tu_eq]
theorem lx_g0_11 (h : (K a).1 = 1) : jgA (lay K T R) a 0 11 = R a 11 := jgA_rf (lx_c0 h) rfl
theorem lx_r0_11 (h : (K a).1 = 1) : jgR (lay K T R) a 0 11 = some (R a 11) := jgR_rf (lx_c0 h) rfl
theorem lx_p0_11 (h : (K a).1 = 1) (h8 : 8 ≤ a) (b : Nat) : jpF (lay K T R) a 0 11 (.ref b) = some (lay K T (ru R a 11 (some b))) := by
  rw [jpF_of (lx_c0 h) (Nat.le_of_ble_eq_true rfl) h8, lx_setR K T R a (va_up (R a) 11 (some b)) (by unfold cel; rw [h]; rfl), ru_eq]
theorem lx_n0_11 (h : (K a).1 = 1) (h8 : 8 ≤ a) : jpF (lay K T R) a 0 11 .null = some (lay K T (ru R a 11 none)) := by
  rw [jpF_of (lx_c0 h) (Nat.le_of_ble_eq_true rfl) h8, lx_setR K T R a (va_up (R a) 11 none) (by unfold cel; rw [h]; rfl), ru_eq]
theorem lx_g0_12 (h : (K a).1 = 1) : jgI (lay K T R) a 0 12 = some (T a 12) := jgI_of (lx_c0 h) rfl
theorem lx_p0_12 (h : (K a).1 = 1) (h8 : 8 ≤ a) (v : Int32) : jpF (lay K T R) a 0 12 (.int v) = some (lay K (tu T a 12 v) R) := by
  rw [jpF_of (lx_c0 h) (Nat.le_of_ble_eq_true rfl) h8, lx_setT K T R a (upd (T a) 12 v) (by unfold cel; rw [h]; rfl), tu_eq]
theorem lx_g0_13 (h : (K a).1 = 1) : jgA (lay K T R) a 0 13 = R a 13 := jgA_rf (lx_c0 h) rfl
theorem lx_r0_13 (h : (K a).1 = 1) : jgR (lay K T R) a 0 13 = some (R a 13) := jgR_rf (lx_c0 h) rfl
theorem lx_p0_13 (h : (K a).1 = 1) (h8 : 8 ≤ a) (b : Nat) : jpF (lay K T R) a 0 13 (.ref b) = some (lay K T (ru R a 13 (some b))) := by
  rw [jpF_of (lx_c0 h) (Nat.le_of_ble_eq_true rfl) h8, lx_setR K T R a (va_up (R a) 13 (some b)) (by unfold cel; rw [h]; rfl), ru_eq]
theorem lx_n0_13 (h : (K a).1 = 1) (h8 : 8 ≤ a) : jpF (lay K T R) a 0 13 .null = some (lay K T (ru R a 13 none)) := by
  rw [jpF_of (lx_c0 h) (Nat.le_of_ble_eq_true rfl) h8, lx_setR K T R a (va_up (R a) 13 none) (by unfold cel; rw [h]; rfl), ru_eq]
theorem lx_g0_14 (h : (K a).1 = 1) : jgI (lay K T R) a 0 14 = some (T a 14) := jgI_of (lx_c0 h) rfl
theorem lx_p0_14 (h : (K a).1 = 1) (h8 : 8 ≤ a) (v : Int32) : jpF (lay K T R) a 0 14 (.int v) = some (lay K (tu T a 14 v) R) := by
  rw [jpF_of (lx_c0 h) (Nat.le_of_ble_eq_true rfl) h8, lx_setT K T R a (upd (T a) 14 v) (by unfold cel; rw [h]; rfl), tu_eq]
theorem lx_g0_15 (h : (K a).1 = 1) : jgA (lay K T R) a 0 15 = R a 15 := jgA_rf (lx_c0 h) rfl
theorem lx_r0_15 (h : (K a).1 = 1) : jgR (lay K T R) a 0 15 = some (R a 15) := jgR_rf (lx_c0 h) rfl
theorem lx_p0_15 (h : (K a).1 = 1) (h8 : 8 ≤ a) (b : Nat) : jpF (lay K T R) a 0 15 (.ref b) = some (lay K T (ru R a 15 (some b))) := by
  rw [jpF_of (lx_c0 h) (Nat.le_of_ble_eq_true rfl) h8, lx_setR K T R a (va_up (R a) 15 (some b)) (by unfold cel; rw [h]; rfl), ru_eq]
theorem lx_n0_15 (h : (K a).1 = 1) (h8 : 8 ≤ a) : jpF (lay K T R) a 0 15 .null = some (lay K T (ru R a 15 none)) := by
  rw [jpF_of (lx_c0 h) (Nat.le_of_ble_eq_true rfl) h8, lx_setR K T R a (va_up (R a) 15 none) (by unfold cel; rw [h]; rfl), ru_eq]
theorem lx_g0_16 (h : (K a).1 = 1) : jgI (lay K T R) a 0 16 = some (T a 16) := jgI_of (lx_c0 h) rfl
theorem lx_p0_16 (h : (K a).1 = 1) (h8 : 8 ≤ a) (v : Int32) : jpF (lay K T R) a 0 16 (.int v) = some (lay K (tu T a 16 v) R) := by
  rw [jpF_of (lx_c0 h) (Nat.le_of_ble_eq_true rfl) h8, lx_setT K T R a (upd (T a) 16 v) (by unfold cel; rw [h]; rfl), tu_eq]
theorem lx_g0_17 (h : (K a).1 = 1) : jgA (lay K T R) a 0 17 = R a 17 := jgA_rf (lx_c0 h) rfl
theorem lx_r0_17 (h : (K a).1 = 1) : jgR (lay K T R) a 0 17 = some (R a 17) := jgR_rf (lx_c0 h) rfl
theorem lx_p0_17 (h : (K a).1 = 1) (h8 : 8 ≤ a) (b : Nat) : jpF (lay K T R) a 0 17 (.ref b) = some (lay K T (ru R a 17 (some b))) := by
  rw [jpF_of (lx_c0 h) (Nat.le_of_ble_eq_true rfl) h8, lx_setR K T R a (va_up (R a) 17 (some b)) (by unfold cel; rw [h]; rfl), ru_eq]
theorem lx_n0_17 (h : (K a).1 = 1) (h8 : 8 ≤ a) : jpF (lay K T R) a 0 17 .null = some (lay K T (ru R a 17 none)) := by
  rw [jpF_of (lx_c0 h) (Nat.le_of_ble_eq_true rfl) h8, lx_setR K T R a (va_up (R a) 17 none) (by unfold cel; rw [h]; rfl), ru_eq]
theorem lx_g0_18 (h : (K a).1 = 1) : jgI (lay K T R) a 0 18 = some (T a 18) := jgI_of (lx_c0 h) rfl
theorem lx_p0_18 (h : (K a).1 = 1) (h8 : 8 ≤ a) (v : Int32) : jpF (lay K T R) a 0 18 (.int v) = some (lay K (tu T a 18 v) R) := by
  rw [jpF_of (lx_c0 h) (Nat.le_of_ble_eq_true rfl) h8, lx_setT K T R a (upd (T a) 18 v) (by unfold cel; rw [h]; rfl), tu_eq]
theorem lx_g0_19 (h : (K a).1 = 1) : jgI (lay K T R) a 0 19 = some (T a 19) := jgI_of (lx_c0 h) rfl
theorem lx_p0_19 (h : (K a).1 = 1) (h8 : 8 ≤ a) (v : Int32) : jpF (lay K T R) a 0 19 (.int v) = some (lay K (tu T a 19 v) R) := by
  rw [jpF_of (lx_c0 h) (Nat.le_of_ble_eq_true rfl) h8, lx_setT K T R a (upd (T a) 19 v) (by unfold cel; rw [h]; rfl), tu_eq]
theorem lx_g0_20 (h : (K a).1 = 1) : jgA (lay K T R) a 0 20 = R a 20 := jgA_rf (lx_c0 h) rfl
theorem lx_r0_20 (h : (K a).1 = 1) : jgR (lay K T R) a 0 20 = some (R a 20) := jgR_rf (lx_c0 h) rfl
theorem lx_p0_20 (h : (K a).1 = 1) (h8 : 8 ≤ a) (b : Nat) : jpF (lay K T R) a 0 20 (.ref b) = some (lay K T (ru R a 20 (some b))) := by
  rw [jpF_of (lx_c0 h) (Nat.le_of_ble_eq_true rfl) h8, lx_setR K T R a (va_up (R a) 20 (some b)) (by unfold cel; rw [h]; rfl), ru_eq]
theorem lx_n0_20 (h : (K a).1 = 1) (h8 : 8 ≤ a) : jpF (lay K T R) a 0 20 .null = some (lay K T (ru R a 20 none)) := by
  rw [jpF_of (lx_c0 h) (Nat.le_of_ble_eq_true rfl) h8, lx_setR K T R a (va_up (R a) 20 none) (by unfold cel; rw [h]; rfl), ru_eq]
theorem lx_g0_21 (h : (K a).1 = 1) : jgA (lay K T R) a 0 21 = R a 21 := jgA_rf (lx_c0 h) rfl
theorem lx_r0_21 (h : (K a).1 = 1) : jgR (lay K T R) a 0 21 = some (R a 21) := jgR_rf (lx_c0 h) rfl
theorem lx_p0_21 (h : (K a).1 = 1) (h8 : 8 ≤ a) (b : Nat) : jpF (lay K T R) a 0 21 (.ref b) = some (lay K T (ru R a 21 (some b))) := by
  rw [jpF_of (lx_c0 h) (Nat.le_of_ble_eq_true rfl) h8, lx_setR K T R a (va_up (R a) 21 (some b)) (by unfold cel; rw [h]; rfl), ru_eq]
theorem lx_n0_21 (h : (K a).1 = 1) (h8 : 8 ≤ a) : jpF (lay K T R) a 0 21 .null = some (lay K T (ru R a 21 none)) := by
  rw [jpF_of (lx_c0 h) (Nat.le_of_ble_eq_true rfl) h8, lx_setR K T R a (va_up (R a) 21 none) (by unfold cel; rw [h]; rfl), ru_eq]
theorem lx_g0_22 (h : (K a).1 = 1) : jgI (lay K T R) a 0 22 = some (T a 22) := jgI_of (lx_c0 h) rfl
theorem lx_p0_22 (h : (K a).1 = 1) (h8 : 8 ≤ a) (v : Int32) : jpF (lay K T R) a 0 22 (.int v) = some (lay K (tu T a 22 v) R) := by
  rw [jpF_of (lx_c0 h) (Nat.le_of_ble_eq_true rfl) h8, lx_setT K T R a (upd (T a) 22 v) (by unfold cel; rw [h]; rfl), tu_eq]
theorem lx_g0_23 (h : (K a).1 = 1) : jgI (lay K T R) a 0 23 = some (T a 23) := jgI_of (lx_c0 h) rfl
theorem lx_p0_23 (h : (K a).1 = 1) (h8 : 8 ≤ a) (v : Int32) : jpF (lay K T R) a 0 23 (.int v) = some (lay K (tu T a 23 v) R) := by
  rw [jpF_of (lx_c0 h) (Nat.le_of_ble_eq_true rfl) h8, lx_setT K T R a (upd (T a) 23 v) (by unfold cel; rw [h]; rfl), tu_eq]
theorem lx_g0_24 (h : (K a).1 = 1) : jgI (lay K T R) a 0 24 = some (T a 24) := jgI_of (lx_c0 h) rfl
theorem lx_p0_24 (h : (K a).1 = 1) (h8 : 8 ≤ a) (v : Int32) : jpF (lay K T R) a 0 24 (.int v) = some (lay K (tu T a 24 v) R) := by
  rw [jpF_of (lx_c0 h) (Nat.le_of_ble_eq_true rfl) h8, lx_setT K T R a (upd (T a) 24 v) (by unfold cel; rw [h]; rfl), tu_eq]
theorem lx_g0_25 (h : (K a).1 = 1) : jgI (lay K T R) a 0 25 = some (T a 25) := jgI_of (lx_c0 h) rfl
theorem lx_p0_25 (h : (K a).1 = 1) (h8 : 8 ≤ a) (v : Int32) : jpF (lay K T R) a 0 25 (.int v) = some (lay K (tu T a 25 v) R) := by
  rw [jpF_of (lx_c0 h) (Nat.le_of_ble_eq_true rfl) h8, lx_setT K T R a (upd (T a) 25 v) (by unfold cel; rw [h]; rfl), tu_eq]
theorem lx_g0_26 (h : (K a).1 = 1) : jgA (lay K T R) a 0 26 = R a 26 := jgA_rf (lx_c0 h) rfl
theorem lx_r0_26 (h : (K a).1 = 1) : jgR (lay K T R) a 0 26 = some (R a 26) := jgR_rf (lx_c0 h) rfl
theorem lx_p0_26 (h : (K a).1 = 1) (h8 : 8 ≤ a) (b : Nat) : jpF (lay K T R) a 0 26 (.ref b) = some (lay K T (ru R a 26 (some b))) := by
  rw [jpF_of (lx_c0 h) (Nat.le_of_ble_eq_true rfl) h8, lx_setR K T R a (va_up (R a) 26 (some b)) (by unfold cel; rw [h]; rfl), ru_eq]
theorem lx_n0_26 (h : (K a).1 = 1) (h8 : 8 ≤ a) : jpF (lay K T R) a 0 26 .null = some (lay K T (ru R a 26 none)) := by
  rw [jpF_of (lx_c0 h) (Nat.le_of_ble_eq_true rfl) h8, lx_setR K T R a (va_up (R a) 26 none) (by unfold cel; rw [h]; rfl), ru_eq]
theorem lx_g0_27 (h : (K a).1 = 1) : jgI (lay K T R) a 0 27 = some (T a 27) := jgI_of (lx_c0 h) rfl
theorem lx_p0_27 (h : (K a).1 = 1) (h8 : 8 ≤ a) (v : Int32) : jpF (lay K T R) a 0 27 (.int v) = some (lay K (tu T a 27 v) R) := by
  rw [jpF_of (lx_c0 h) (Nat.le_of_ble_eq_true rfl) h8, lx_setT K T R a (upd (T a) 27 v) (by unfold cel; rw [h]; rfl), tu_eq]
theorem lx_is1 (h : (K a).1 = 2) : jis (lay K T R) a 1 = some () := jis_of (lx_c1 h)
theorem lx_g1_0 (h : (K a).1 = 2) : jgI (lay K T R) a 1 0 = some (T a 0) := jgI_of (lx_c1 h) rfl
theorem lx_p1_0 (h : (K a).1 = 2) (h8 : 8 ≤ a) (v : Int32) : jpF (lay K T R) a 1 0 (.int v) = some (lay K (tu T a 0 v) R) := by
  rw [jpF_of (lx_c1 h) (Nat.le_of_ble_eq_true rfl) h8, lx_setT K T R a (upd (T a) 0 v) (by unfold cel; rw [h]; rfl), tu_eq]
theorem lx_g1_1 (h : (K a).1 = 2) : jgA (lay K T R) a 1 1 = R a 1 := jgA_rf (lx_c1 h) rfl
theorem lx_r1_1 (h : (K a).1 = 2) : jgR (lay K T R) a 1 1 = some (R a 1) := jgR_rf (lx_c1 h) rfl
theorem lx_p1_1 (h : (K a).1 = 2) (h8 : 8 ≤ a) (b : Nat) : jpF (lay K T R) a 1 1 (.ref b) = some (lay K T (ru R a 1 (some b))) := by
  rw [jpF_of (lx_c1 h) (Nat.le_of_ble_eq_true rfl) h8, lx_setR K T R a (va_up (R a) 1 (some b)) (by unfold cel; rw [h]; rfl), ru_eq]
theorem lx_n1_1 (h : (K a).1 = 2) (h8 : 8 ≤ a) : jpF (lay K T R) a 1 1 .null = some (lay K T (ru R a 1 none)) := by
  rw [jpF_of (lx_c1 h) (Nat.le_of_ble_eq_true rfl) h8, lx_setR K T R a (va_up (R a) 1 none) (by unfold cel; rw [h]; rfl), ru_eq]
theorem lx_g1_2 (h : (K a).1 = 2) : jgI (lay K T R) a 1 2 = some (T a 2) := jgI_of (lx_c1 h) rfl
theorem lx_p1_2 (h : (K a).1 = 2) (h8 : 8 ≤ a) (v : Int32) : jpF (lay K T R) a 1 2 (.int v) = some (lay K (tu T a 2 v) R) := by
  rw [jpF_of (lx_c1 h) (Nat.le_of_ble_eq_true rfl) h8, lx_setT K T R a (upd (T a) 2 v) (by unfold cel; rw [h]; rfl), tu_eq]
theorem lx_g1_3 (h : (K a).1 = 2) : jgA (lay K T R) a 1 3 = R a 3 := jgA_rf (lx_c1 h) rfl
theorem lx_r1_3 (h : (K a).1 = 2) : jgR (lay K T R) a 1 3 = some (R a 3) := jgR_rf (lx_c1 h) rfl
theorem lx_p1_3 (h : (K a).1 = 2) (h8 : 8 ≤ a) (b : Nat) : jpF (lay K T R) a 1 3 (.ref b) = some (lay K T (ru R a 3 (some b))) := by
  rw [jpF_of (lx_c1 h) (Nat.le_of_ble_eq_true rfl) h8, lx_setR K T R a (va_up (R a) 3 (some b)) (by unfold cel; rw [h]; rfl), ru_eq]
theorem lx_n1_3 (h : (K a).1 = 2) (h8 : 8 ≤ a) : jpF (lay K T R) a 1 3 .null = some (lay K T (ru R a 3 none)) := by
  rw [jpF_of (lx_c1 h) (Nat.le_of_ble_eq_true rfl) h8, lx_setR K T R a (va_up (R a) 3 none) (by unfold cel; rw [h]; rfl), ru_eq]
theorem lx_is2 (h : (K a).1 = 3) : jis (lay K T R) a 2 = some () := jis_of (lx_c2 h)
theorem lx_g2_0 (h : (K a).1 = 3) : jgI (lay K T R) a 2 0 = some (T a 0) := jgI_of (lx_c2 h) rfl
theorem lx_p2_0 (h : (K a).1 = 3) (h8 : 8 ≤ a) (v : Int32) : jpF (lay K T R) a 2 0 (.int v) = some (lay K (tu T a 0 v) R) := by
  rw [jpF_of (lx_c2 h) (Nat.le_of_ble_eq_true rfl) h8, lx_setT K T R a (upd (T a) 0 v) (by unfold cel; rw [h]; rfl), tu_eq]
theorem lx_g2_1 (h : (K a).1 = 3) : jgA (lay K T R) a 2 1 = R a 1 := jgA_rf (lx_c2 h) rfl
theorem lx_r2_1 (h : (K a).1 = 3) : jgR (lay K T R) a 2 1 = some (R a 1) := jgR_rf (lx_c2 h) rfl
theorem lx_p2_1 (h : (K a).1 = 3) (h8 : 8 ≤ a) (b : Nat) : jpF (lay K T R) a 2 1 (.ref b) = some (lay K T (ru R a 1 (some b))) := by
  rw [jpF_of (lx_c2 h) (Nat.le_of_ble_eq_true rfl) h8, lx_setR K T R a (va_up (R a) 1 (some b)) (by unfold cel; rw [h]; rfl), ru_eq]
theorem lx_n2_1 (h : (K a).1 = 3) (h8 : 8 ≤ a) : jpF (lay K T R) a 2 1 .null = some (lay K T (ru R a 1 none)) := by
  rw [jpF_of (lx_c2 h) (Nat.le_of_ble_eq_true rfl) h8, lx_setR K T R a (va_up (R a) 1 none) (by unfold cel; rw [h]; rfl), ru_eq]
theorem lx_g2_2 (h : (K a).1 = 3) : jgI (lay K T R) a 2 2 = some (T a 2) := jgI_of (lx_c2 h) rfl
theorem lx_p2_2 (h : (K a).1 = 3) (h8 : 8 ≤ a) (v : Int32) : jpF (lay K T R) a 2 2 (.int v) = some (lay K (tu T a 2 v) R) := by
  rw [jpF_of (lx_c2 h) (Nat.le_of_ble_eq_true rfl) h8, lx_setT K T R a (upd (T a) 2 v) (by unfold cel; rw [h]; rfl), tu_eq]
theorem lx_g2_3 (h : (K a).1 = 3) : jgA (lay K T R) a 2 3 = R a 3 := jgA_rf (lx_c2 h) rfl
theorem lx_r2_3 (h : (K a).1 = 3) : jgR (lay K T R) a 2 3 = some (R a 3) := jgR_rf (lx_c2 h) rfl
theorem lx_p2_3 (h : (K a).1 = 3) (h8 : 8 ≤ a) (b : Nat) : jpF (lay K T R) a 2 3 (.ref b) = some (lay K T (ru R a 3 (some b))) := by
  rw [jpF_of (lx_c2 h) (Nat.le_of_ble_eq_true rfl) h8, lx_setR K T R a (va_up (R a) 3 (some b)) (by unfold cel; rw [h]; rfl), ru_eq]
theorem lx_n2_3 (h : (K a).1 = 3) (h8 : 8 ≤ a) : jpF (lay K T R) a 2 3 .null = some (lay K T (ru R a 3 none)) := by
  rw [jpF_of (lx_c2 h) (Nat.le_of_ble_eq_true rfl) h8, lx_setR K T R a (va_up (R a) 3 none) (by unfold cel; rw [h]; rfl), ru_eq]
theorem lx_is3 (h : (K a).1 = 4) : jis (lay K T R) a 3 = some () := jis_of (lx_c3 h)
theorem lx_g3_0 (h : (K a).1 = 4) : jgI (lay K T R) a 3 0 = some (T a 0) := jgI_of (lx_c3 h) rfl
theorem lx_p3_0 (h : (K a).1 = 4) (h8 : 8 ≤ a) (v : Int32) : jpF (lay K T R) a 3 0 (.int v) = some (lay K (tu T a 0 v) R) := by
  rw [jpF_of (lx_c3 h) (Nat.le_of_ble_eq_true rfl) h8, lx_setT K T R a (upd (T a) 0 v) (by unfold cel; rw [h]; rfl), tu_eq]
theorem lx_g3_1 (h : (K a).1 = 4) : jgA (lay K T R) a 3 1 = R a 1 := jgA_rf (lx_c3 h) rfl
theorem lx_r3_1 (h : (K a).1 = 4) : jgR (lay K T R) a 3 1 = some (R a 1) := jgR_rf (lx_c3 h) rfl
theorem lx_p3_1 (h : (K a).1 = 4) (h8 : 8 ≤ a) (b : Nat) : jpF (lay K T R) a 3 1 (.ref b) = some (lay K T (ru R a 1 (some b))) := by
  rw [jpF_of (lx_c3 h) (Nat.le_of_ble_eq_true rfl) h8, lx_setR K T R a (va_up (R a) 1 (some b)) (by unfold cel; rw [h]; rfl), ru_eq]
theorem lx_n3_1 (h : (K a).1 = 4) (h8 : 8 ≤ a) : jpF (lay K T R) a 3 1 .null = some (lay K T (ru R a 1 none)) := by
  rw [jpF_of (lx_c3 h) (Nat.le_of_ble_eq_true rfl) h8, lx_setR K T R a (va_up (R a) 1 none) (by unfold cel; rw [h]; rfl), ru_eq]
theorem lx_is4 (h : (K a).1 = 5) : jis (lay K T R) a 4 = some () := jis_of (lx_c4 h)
theorem lx_g4_0 (h : (K a).1 = 5) : jgI (lay K T R) a 4 0 = some (T a 0) := jgI_of (lx_c4 h) rfl
theorem lx_p4_0 (h : (K a).1 = 5) (h8 : 8 ≤ a) (v : Int32) : jpF (lay K T R) a 4 0 (.int v) = some (lay K (tu T a 0 v) R) := by
  rw [jpF_of (lx_c4 h) (Nat.le_of_ble_eq_true rfl) h8, lx_setT K T R a (upd (T a) 0 v) (by unfold cel; rw [h]; rfl), tu_eq]
theorem lx_g4_1 (h : (K a).1 = 5) : jgI (lay K T R) a 4 1 = some (T a 1) := jgI_of (lx_c4 h) rfl
theorem lx_p4_1 (h : (K a).1 = 5) (h8 : 8 ≤ a) (v : Int32) : jpF (lay K T R) a 4 1 (.int v) = some (lay K (tu T a 1 v) R) := by
  rw [jpF_of (lx_c4 h) (Nat.le_of_ble_eq_true rfl) h8, lx_setT K T R a (upd (T a) 1 v) (by unfold cel; rw [h]; rfl), tu_eq]
theorem lx_g4_2 (h : (K a).1 = 5) : jgI (lay K T R) a 4 2 = some (T a 2) := jgI_of (lx_c4 h) rfl
theorem lx_p4_2 (h : (K a).1 = 5) (h8 : 8 ≤ a) (v : Int32) : jpF (lay K T R) a 4 2 (.int v) = some (lay K (tu T a 2 v) R) := by
  rw [jpF_of (lx_c4 h) (Nat.le_of_ble_eq_true rfl) h8, lx_setT K T R a (upd (T a) 2 v) (by unfold cel; rw [h]; rfl), tu_eq]
theorem lx_g4_3 (h : (K a).1 = 5) : jgI (lay K T R) a 4 3 = some (T a 3) := jgI_of (lx_c4 h) rfl
theorem lx_p4_3 (h : (K a).1 = 5) (h8 : 8 ≤ a) (v : Int32) : jpF (lay K T R) a 4 3 (.int v) = some (lay K (tu T a 3 v) R) := by
  rw [jpF_of (lx_c4 h) (Nat.le_of_ble_eq_true rfl) h8, lx_setT K T R a (upd (T a) 3 v) (by unfold cel; rw [h]; rfl), tu_eq]
theorem lx_g4_4 (h : (K a).1 = 5) : jgA (lay K T R) a 4 4 = R a 4 := jgA_rf (lx_c4 h) rfl
theorem lx_r4_4 (h : (K a).1 = 5) : jgR (lay K T R) a 4 4 = some (R a 4) := jgR_rf (lx_c4 h) rfl
theorem lx_p4_4 (h : (K a).1 = 5) (h8 : 8 ≤ a) (b : Nat) : jpF (lay K T R) a 4 4 (.ref b) = some (lay K T (ru R a 4 (some b))) := by
  rw [jpF_of (lx_c4 h) (Nat.le_of_ble_eq_true rfl) h8, lx_setR K T R a (va_up (R a) 4 (some b)) (by unfold cel; rw [h]; rfl), ru_eq]
theorem lx_n4_4 (h : (K a).1 = 5) (h8 : 8 ≤ a) : jpF (lay K T R) a 4 4 .null = some (lay K T (ru R a 4 none)) := by
  rw [jpF_of (lx_c4 h) (Nat.le_of_ble_eq_true rfl) h8, lx_setR K T R a (va_up (R a) 4 none) (by unfold cel; rw [h]; rfl), ru_eq]
theorem lx_is5 (h : (K a).1 = 6) : jis (lay K T R) a 5 = some () := jis_of (lx_c5 h)
theorem lx_g5_0 (h : (K a).1 = 6) : jgI (lay K T R) a 5 0 = some (T a 0) := jgI_of (lx_c5 h) rfl
theorem lx_p5_0 (h : (K a).1 = 6) (h8 : 8 ≤ a) (v : Int32) : jpF (lay K T R) a 5 0 (.int v) = some (lay K (tu T a 0 v) R) := by
  rw [jpF_of (lx_c5 h) (Nat.le_of_ble_eq_true rfl) h8, lx_setT K T R a (upd (T a) 0 v) (by unfold cel; rw [h]; rfl), tu_eq]
theorem lx_g5_1 (h : (K a).1 = 6) : jgA (lay K T R) a 5 1 = R a 1 := jgA_rf (lx_c5 h) rfl
theorem lx_r5_1 (h : (K a).1 = 6) : jgR (lay K T R) a 5 1 = some (R a 1) := jgR_rf (lx_c5 h) rfl
theorem lx_p5_1 (h : (K a).1 = 6) (h8 : 8 ≤ a) (b : Nat) : jpF (lay K T R) a 5 1 (.ref b) = some (lay K T (ru R a 1 (some b))) := by
  rw [jpF_of (lx_c5 h) (Nat.le_of_ble_eq_true rfl) h8, lx_setR K T R a (va_up (R a) 1 (some b)) (by unfold cel; rw [h]; rfl), ru_eq]
theorem lx_n5_1 (h : (K a).1 = 6) (h8 : 8 ≤ a) : jpF (lay K T R) a 5 1 .null = some (lay K T (ru R a 1 none)) := by
  rw [jpF_of (lx_c5 h) (Nat.le_of_ble_eq_true rfl) h8, lx_setR K T R a (va_up (R a) 1 none) (by unfold cel; rw [h]; rfl), ru_eq]
theorem lx_g5_2 (h : (K a).1 = 6) : jgI (lay K T R) a 5 2 = some (T a 2) := jgI_of (lx_c5 h) rfl
theorem lx_p5_2 (h : (K a).1 = 6) (h8 : 8 ≤ a) (v : Int32) : jpF (lay K T R) a 5 2 (.int v) = some (lay K (tu T a 2 v) R) := by
  rw [jpF_of (lx_c5 h) (Nat.le_of_ble_eq_true rfl) h8, lx_setT K T R a (upd (T a) 2 v) (by unfold cel; rw [h]; rfl), tu_eq]
theorem lx_is6 (h : (K a).1 = 7) : jis (lay K T R) a 6 = some () := jis_of (lx_c6 h)
theorem lx_g6_0 (h : (K a).1 = 7) : jgA (lay K T R) a 6 0 = R a 0 := jgA_rf (lx_c6 h) rfl
theorem lx_r6_0 (h : (K a).1 = 7) : jgR (lay K T R) a 6 0 = some (R a 0) := jgR_rf (lx_c6 h) rfl
theorem lx_p6_0 (h : (K a).1 = 7) (h8 : 8 ≤ a) (b : Nat) : jpF (lay K T R) a 6 0 (.ref b) = some (lay K T (ru R a 0 (some b))) := by
  rw [jpF_of (lx_c6 h) (Nat.le_of_ble_eq_true rfl) h8, lx_setR K T R a (va_up (R a) 0 (some b)) (by unfold cel; rw [h]; rfl), ru_eq]
theorem lx_n6_0 (h : (K a).1 = 7) (h8 : 8 ≤ a) : jpF (lay K T R) a 6 0 .null = some (lay K T (ru R a 0 none)) := by
  rw [jpF_of (lx_c6 h) (Nat.le_of_ble_eq_true rfl) h8, lx_setR K T R a (va_up (R a) 0 none) (by unfold cel; rw [h]; rfl), ru_eq]
theorem lx_g6_1 (h : (K a).1 = 7) : jgI (lay K T R) a 6 1 = some (T a 1) := jgI_of (lx_c6 h) rfl
theorem lx_p6_1 (h : (K a).1 = 7) (h8 : 8 ≤ a) (v : Int32) : jpF (lay K T R) a 6 1 (.int v) = some (lay K (tu T a 1 v) R) := by
  rw [jpF_of (lx_c6 h) (Nat.le_of_ble_eq_true rfl) h8, lx_setT K T R a (upd (T a) 1 v) (by unfold cel; rw [h]; rfl), tu_eq]
theorem lx_g6_2 (h : (K a).1 = 7) : jgI (lay K T R) a 6 2 = some (T a 2) := jgI_of (lx_c6 h) rfl
theorem lx_p6_2 (h : (K a).1 = 7) (h8 : 8 ≤ a) (v : Int32) : jpF (lay K T R) a 6 2 (.int v) = some (lay K (tu T a 2 v) R) := by
  rw [jpF_of (lx_c6 h) (Nat.le_of_ble_eq_true rfl) h8, lx_setT K T R a (upd (T a) 2 v) (by unfold cel; rw [h]; rfl), tu_eq]
theorem lx_g6_3 (h : (K a).1 = 7) : jgI (lay K T R) a 6 3 = some (T a 3) := jgI_of (lx_c6 h) rfl
theorem lx_p6_3 (h : (K a).1 = 7) (h8 : 8 ≤ a) (v : Int32) : jpF (lay K T R) a 6 3 (.int v) = some (lay K (tu T a 3 v) R) := by
  rw [jpF_of (lx_c6 h) (Nat.le_of_ble_eq_true rfl) h8, lx_setT K T R a (upd (T a) 3 v) (by unfold cel; rw [h]; rfl), tu_eq]
theorem lx_g6_4 (h : (K a).1 = 7) : jgI (lay K T R) a 6 4 = some (T a 4) := jgI_of (lx_c6 h) rfl
theorem lx_p6_4 (h : (K a).1 = 7) (h8 : 8 ≤ a) (v : Int32) : jpF (lay K T R) a 6 4 (.int v) = some (lay K (tu T a 4 v) R) := by
  rw [jpF_of (lx_c6 h) (Nat.le_of_ble_eq_true rfl) h8, lx_setT K T R a (upd (T a) 4 v) (by unfold cel; rw [h]; rfl), tu_eq]
theorem lx_g6_5 (h : (K a).1 = 7) : jgI (lay K T R) a 6 5 = some (T a 5) := jgI_of (lx_c6 h) rfl
theorem lx_p6_5 (h : (K a).1 = 7) (h8 : 8 ≤ a) (v : Int32) : jpF (lay K T R) a 6 5 (.int v) = some (lay K (tu T a 5 v) R) := by
  rw [jpF_of (lx_c6 h) (Nat.le_of_ble_eq_true rfl) h8, lx_setT K T R a (upd (T a) 5 v) (by unfold cel; rw [h]; rfl), tu_eq]
theorem lx_g6_6 (h : (K a).1 = 7) : jgI (lay K T R) a 6 6 = some (T a 6) := jgI_of (lx_c6 h) rfl
theorem lx_p6_6 (h : (K a).1 = 7) (h8 : 8 ≤ a) (v : Int32) : jpF (lay K T R) a 6 6 (.int v) = some (lay K (tu T a 6 v) R) := by
  rw [jpF_of (lx_c6 h) (Nat.le_of_ble_eq_true rfl) h8, lx_setT K T R a (upd (T a) 6 v) (by unfold cel; rw [h]; rfl), tu_eq]
theorem lx_is7 (h : (K a).1 = 8) : jis (lay K T R) a 7 = some () := jis_of (lx_c7 h)
theorem lx_g7_0 (h : (K a).1 = 8) : jgA (lay K T R) a 7 0 = R a 0 := jgA_rf (lx_c7 h) rfl
theorem lx_r7_0 (h : (K a).1 = 8) : jgR (lay K T R) a 7 0 = some (R a 0) := jgR_rf (lx_c7 h) rfl
theorem lx_p7_0 (h : (K a).1 = 8) (h8 : 8 ≤ a) (b : Nat) : jpF (lay K T R) a 7 0 (.ref b) = some (lay K T (ru R a 0 (some b))) := by
  rw [jpF_of (lx_c7 h) (Nat.le_of_ble_eq_true rfl) h8, lx_setR K T R a (va_up (R a) 0 (some b)) (by unfold cel; rw [h]; rfl), ru_eq]
theorem lx_n7_0 (h : (K a).1 = 8) (h8 : 8 ≤ a) : jpF (lay K T R) a 7 0 .null = some (lay K T (ru R a 0 none)) := by
  rw [jpF_of (lx_c7 h) (Nat.le_of_ble_eq_true rfl) h8, lx_setR K T R a (va_up (R a) 0 none) (by unfold cel; rw [h]; rfl), ru_eq]
theorem lx_g7_1 (h : (K a).1 = 8) : jgI (lay K T R) a 7 1 = some (T a 1) := jgI_of (lx_c7 h) rfl
theorem lx_p7_1 (h : (K a).1 = 8) (h8 : 8 ≤ a) (v : Int32) : jpF (lay K T R) a 7 1 (.int v) = some (lay K (tu T a 1 v) R) := by
  rw [jpF_of (lx_c7 h) (Nat.le_of_ble_eq_true rfl) h8, lx_setT K T R a (upd (T a) 1 v) (by unfold cel; rw [h]; rfl), tu_eq]
theorem lx_g7_2 (h : (K a).1 = 8) : jgI (lay K T R) a 7 2 = some (T a 2) := jgI_of (lx_c7 h) rfl
theorem lx_p7_2 (h : (K a).1 = 8) (h8 : 8 ≤ a) (v : Int32) : jpF (lay K T R) a 7 2 (.int v) = some (lay K (tu T a 2 v) R) := by
  rw [jpF_of (lx_c7 h) (Nat.le_of_ble_eq_true rfl) h8, lx_setT K T R a (upd (T a) 2 v) (by unfold cel; rw [h]; rfl), tu_eq]
theorem lx_g7_3 (h : (K a).1 = 8) : jgI (lay K T R) a 7 3 = some (T a 3) := jgI_of (lx_c7 h) rfl
theorem lx_p7_3 (h : (K a).1 = 8) (h8 : 8 ≤ a) (v : Int32) : jpF (lay K T R) a 7 3 (.int v) = some (lay K (tu T a 3 v) R) := by
  rw [jpF_of (lx_c7 h) (Nat.le_of_ble_eq_true rfl) h8, lx_setT K T R a (upd (T a) 3 v) (by unfold cel; rw [h]; rfl), tu_eq]
theorem lx_g7_4 (h : (K a).1 = 8) : jgI (lay K T R) a 7 4 = some (T a 4) := jgI_of (lx_c7 h) rfl
theorem lx_p7_4 (h : (K a).1 = 8) (h8 : 8 ≤ a) (v : Int32) : jpF (lay K T R) a 7 4 (.int v) = some (lay K (tu T a 4 v) R) := by
  rw [jpF_of (lx_c7 h) (Nat.le_of_ble_eq_true rfl) h8, lx_setT K T R a (upd (T a) 4 v) (by unfold cel; rw [h]; rfl), tu_eq]
theorem lx_g7_5 (h : (K a).1 = 8) : jgI (lay K T R) a 7 5 = some (T a 5) := jgI_of (lx_c7 h) rfl
theorem lx_p7_5 (h : (K a).1 = 8) (h8 : 8 ≤ a) (v : Int32) : jpF (lay K T R) a 7 5 (.int v) = some (lay K (tu T a 5 v) R) := by
  rw [jpF_of (lx_c7 h) (Nat.le_of_ble_eq_true rfl) h8, lx_setT K T R a (upd (T a) 5 v) (by unfold cel; rw [h]; rfl), tu_eq]
theorem lx_g7_6 (h : (K a).1 = 8) : jgI (lay K T R) a 7 6 = some (T a 6) := jgI_of (lx_c7 h) rfl
theorem lx_p7_6 (h : (K a).1 = 8) (h8 : 8 ≤ a) (v : Int32) : jpF (lay K T R) a 7 6 (.int v) = some (lay K (tu T a 6 v) R) := by
  rw [jpF_of (lx_c7 h) (Nat.le_of_ble_eq_true rfl) h8, lx_setT K T R a (upd (T a) 6 v) (by unfold cel; rw [h]; rfl), tu_eq]
theorem lx_g7_7 (h : (K a).1 = 8) : jgI (lay K T R) a 7 7 = some (T a 7) := jgI_of (lx_c7 h) rfl
theorem lx_p7_7 (h : (K a).1 = 8) (h8 : 8 ≤ a) (v : Int32) : jpF (lay K T R) a 7 7 (.int v) = some (lay K (tu T a 7 v) R) := by
  rw [jpF_of (lx_c7 h) (Nat.le_of_ble_eq_true rfl) h8, lx_setT K T R a (upd (T a) 7 v) (by unfold cel; rw [h]; rfl), tu_eq]
theorem lx_is8 (h : (K a).1 = 9) : jis (lay K T R) a 8 = some () := jis_of (lx_c8 h)
theorem lx_g8_0 (h : (K a).1 = 9) : jgI (lay K T R) a 8 0 = some (T a 0) := jgI_of (lx_c8 h) rfl
theorem lx_p8_0 (h : (K a).1 = 9) (h8 : 8 ≤ a) (v : Int32) : jpF (lay K T R) a 8 0 (.int v) = some (lay K (tu T a 0 v) R) := by
  rw [jpF_of (lx_c8 h) (Nat.le_of_ble_eq_true rfl) h8, lx_setT K T R a (upd (T a) 0 v) (by unfold cel; rw [h]; rfl), tu_eq]
theorem lx_g8_1 (h : (K a).1 = 9) : jgI (lay K T R) a 8 1 = some (T a 1) := jgI_of (lx_c8 h) rfl
theorem lx_p8_1 (h : (K a).1 = 9) (h8 : 8 ≤ a) (v : Int32) : jpF (lay K T R) a 8 1 (.int v) = some (lay K (tu T a 1 v) R) := by
  rw [jpF_of (lx_c8 h) (Nat.le_of_ble_eq_true rfl) h8, lx_setT K T R a (upd (T a) 1 v) (by unfold cel; rw [h]; rfl), tu_eq]
theorem oi {j : Nat} (h : j < 2147483648) : (Int32.ofNat j).toInt = (j : Int) := Int32.toInt_ofNat_of_lt h
theorem on {j : Nat} (h : j < 2147483648) : (Int32.ofNat j).toNatClampNeg = j := by
  have := oi h
  unfold Int32.toNatClampNeg
  omega
theorem lx_l11 (h : (K a).1 = 11) : jalen (lay K T R) a = some (Int32.ofNat (K a).2) := by
  unfold jalen
  rw [lx_c11 h]
theorem lx_t11 (h : (K a).1 = 11) (h8 : 8 ≤ a := by omega) : jisA (lay K T R) a .int = some () := by
  unfold jisA
  rw [lx_c11 h]
  simp [h8]
theorem lx_i11 (h : (K a).1 = 11) (i : Int32) (h0 : 0 ≤ i.toInt) (h1 : i.toInt < (K a).2) : jaI (lay K T R) a .int i = some (T a i.toNatClampNeg) := by
  rw [jaI_of (lx_c11 h), if_pos ⟨h0, h1⟩]
theorem lx_in11 (h : (K a).1 = 11) (j : Nat) (hj : j < (K a).2) (hl : j < 2147483648) : jaI (lay K T R) a .int (Int32.ofNat j) = some (T a j) := by
  rw [lx_i11 h _ (by rw [oi hl]; omega) (by rw [oi hl]; omega), on hl]
theorem lx_s11 (h : (K a).1 = 11) (h8 : 8 ≤ a) (i v : Int32) (h0 : 0 ≤ i.toInt) (h1 : i.toInt < (K a).2) : jaSI (lay K T R) a i v = some (lay K (tu T a i.toNatClampNeg v) R) := by
  rw [jaSI_of (lx_c11 h) h8, if_pos ⟨h0, h1⟩, lx_setT K T R a (upd (T a) i.toNatClampNeg v) (by unfold cel; rw [h]; rfl), tu_eq]
theorem lx_l12 (h : (K a).1 = 12) : jalen (lay K T R) a = some (Int32.ofNat (K a).2) := by
  unfold jalen
  rw [lx_c12 h]
theorem lx_t12 (h : (K a).1 = 12) (h8 : 8 ≤ a := by omega) : jisA (lay K T R) a .byte = some () := by
  unfold jisA
  rw [lx_c12 h]
  simp [h8]
theorem lx_i12 (h : (K a).1 = 12) (i : Int32) (h0 : 0 ≤ i.toInt) (h1 : i.toInt < (K a).2) : jaI (lay K T R) a .byte i = some (T a i.toNatClampNeg) := by
  rw [jaI_of (lx_c12 h), if_pos ⟨h0, h1⟩]
theorem lx_in12 (h : (K a).1 = 12) (j : Nat) (hj : j < (K a).2) (hl : j < 2147483648) : jaI (lay K T R) a .byte (Int32.ofNat j) = some (T a j) := by
  rw [lx_i12 h _ (by rw [oi hl]; omega) (by rw [oi hl]; omega), on hl]
theorem lx_s12 (h : (K a).1 = 12) (h8 : 8 ≤ a) (i v : Int32) (h0 : 0 ≤ i.toInt) (h1 : i.toInt < (K a).2) : jaSB (lay K T R) a .byte i v = some (lay K (tu T a i.toNatClampNeg (vp_nar .byte v)) R) := by
  rw [jaSB_of (lx_c12 h) h8, if_pos ⟨h0, h1⟩, lx_setT K T R a (upd (T a) i.toNatClampNeg (vp_nar .byte v)) (by unfold cel; rw [h]; rfl), tu_eq]
theorem lx_l13 (h : (K a).1 = 13) : jalen (lay K T R) a = some (Int32.ofNat (K a).2) := by
  unfold jalen
  rw [lx_c13 h]
theorem lx_t13 (h : (K a).1 = 13) (h8 : 8 ≤ a := by omega) : jisA (lay K T R) a .short = some () := by
  unfold jisA
  rw [lx_c13 h]
  simp [h8]
theorem lx_i13 (h : (K a).1 = 13) (i : Int32) (h0 : 0 ≤ i.toInt) (h1 : i.toInt < (K a).2) : jaI (lay K T R) a .short i = some (T a i.toNatClampNeg) := by
  rw [jaI_of (lx_c13 h), if_pos ⟨h0, h1⟩]
theorem lx_in13 (h : (K a).1 = 13) (j : Nat) (hj : j < (K a).2) (hl : j < 2147483648) : jaI (lay K T R) a .short (Int32.ofNat j) = some (T a j) := by
  rw [lx_i13 h _ (by rw [oi hl]; omega) (by rw [oi hl]; omega), on hl]
theorem lx_s13 (h : (K a).1 = 13) (h8 : 8 ≤ a) (i v : Int32) (h0 : 0 ≤ i.toInt) (h1 : i.toInt < (K a).2) : jaSB (lay K T R) a .short i v = some (lay K (tu T a i.toNatClampNeg (vp_nar .short v)) R) := by
  rw [jaSB_of (lx_c13 h) h8, if_pos ⟨h0, h1⟩, lx_setT K T R a (upd (T a) i.toNatClampNeg (vp_nar .short v)) (by unfold cel; rw [h]; rfl), tu_eq]
theorem lx_l14 (h : (K a).1 = 14) : jalen (lay K T R) a = some (Int32.ofNat (K a).2) := by
  unfold jalen
  rw [lx_c14 h]
theorem lx_t14 (h : (K a).1 = 14) (h8 : 8 ≤ a := by omega) : jisA (lay K T R) a (.object "BilletBars$Profile") = some () := by
  unfold jisA
  rw [lx_c14 h]
  simp [h8]
theorem lx_a14 (h : (K a).1 = 14) (i : Int32) (h0 : 0 ≤ i.toInt) (h1 : i.toInt < (K a).2) : jaA (lay K T R) a i = R a i.toNatClampNeg := by
  unfold jaA jaR
  rw [lx_c14 h]
  simp only [h0, h1, and_self, and_true]
  rfl
theorem lx_an14 (h : (K a).1 = 14) (j : Nat) (hj : j < (K a).2) (hl : j < 2147483648) : jaA (lay K T R) a (Int32.ofNat j) = R a j := by
  rw [lx_a14 h _ (by rw [oi hl]; omega) (by rw [oi hl]; omega), on hl]
theorem lx_l15 (h : (K a).1 = 15) : jalen (lay K T R) a = some (Int32.ofNat (K a).2) := by
  unfold jalen
  rw [lx_c15 h]
theorem lx_t15 (h : (K a).1 = 15) (h8 : 8 ≤ a := by omega) : jisA (lay K T R) a (.object "BilletBars$Die") = some () := by
  unfold jisA
  rw [lx_c15 h]
  simp [h8]
theorem lx_a15 (h : (K a).1 = 15) (i : Int32) (h0 : 0 ≤ i.toInt) (h1 : i.toInt < (K a).2) : jaA (lay K T R) a i = R a i.toNatClampNeg := by
  unfold jaA jaR
  rw [lx_c15 h]
  simp only [h0, h1, and_self, and_true]
  rfl
theorem lx_an15 (h : (K a).1 = 15) (j : Nat) (hj : j < (K a).2) (hl : j < 2147483648) : jaA (lay K T R) a (Int32.ofNat j) = R a j := by
  rw [lx_a15 h _ (by rw [oi hl]; omega) (by rw [oi hl]; omega), on hl]
theorem lx_l16 (h : (K a).1 = 16) : jalen (lay K T R) a = some (Int32.ofNat (K a).2) := by
  unfold jalen
  rw [lx_c16 h]
theorem lx_t16 (h : (K a).1 = 16) (h8 : 8 ≤ a := by omega) : jisA (lay K T R) a (.object "BilletBars$Bar") = some () := by
  unfold jisA
  rw [lx_c16 h]
  simp [h8]
theorem lx_a16 (h : (K a).1 = 16) (i : Int32) (h0 : 0 ≤ i.toInt) (h1 : i.toInt < (K a).2) : jaA (lay K T R) a i = R a i.toNatClampNeg := by
  unfold jaA jaR
  rw [lx_c16 h]
  simp only [h0, h1, and_self, and_true]
  rfl
theorem lx_an16 (h : (K a).1 = 16) (j : Nat) (hj : j < (K a).2) (hl : j < 2147483648) : jaA (lay K T R) a (Int32.ofNat j) = R a j := by
  rw [lx_a16 h _ (by rw [oi hl]; omega) (by rw [oi hl]; omega), on hl]
theorem lx_l17 (h : (K a).1 = 17) : jalen (lay K T R) a = some (Int32.ofNat (K a).2) := by
  unfold jalen
  rw [lx_c17 h]
theorem lx_t17 (h : (K a).1 = 17) (h8 : 8 ≤ a := by omega) : jisA (lay K T R) a (.object "BilletBars$Sheet") = some () := by
  unfold jisA
  rw [lx_c17 h]
  simp [h8]
theorem lx_a17 (h : (K a).1 = 17) (i : Int32) (h0 : 0 ≤ i.toInt) (h1 : i.toInt < (K a).2) : jaA (lay K T R) a i = R a i.toNatClampNeg := by
  unfold jaA jaR
  rw [lx_c17 h]
  simp only [h0, h1, and_self, and_true]
  rfl
theorem lx_an17 (h : (K a).1 = 17) (j : Nat) (hj : j < (K a).2) (hl : j < 2147483648) : jaA (lay K T R) a (Int32.ofNat j) = R a j := by
  rw [lx_a17 h _ (by rw [oi hl]; omega) (by rw [oi hl]; omega), on hl]
theorem lx_l18 (h : (K a).1 = 18) : jalen (lay K T R) a = some (Int32.ofNat (K a).2) := by
  unfold jalen
  rw [lx_c18 h]
theorem lx_t18 (h : (K a).1 = 18) (h8 : 8 ≤ a := by omega) : jisA (lay K T R) a (.object "java/lang/Object") = some () := by
  unfold jisA
  rw [lx_c18 h]
  simp [h8]
theorem lx_a18 (h : (K a).1 = 18) (i : Int32) (h0 : 0 ≤ i.toInt) (h1 : i.toInt < (K a).2) : jaA (lay K T R) a i = R a i.toNatClampNeg := by
  unfold jaA jaR
  rw [lx_c18 h]
  simp only [h0, h1, and_self, and_true]
  rfl
theorem lx_an18 (h : (K a).1 = 18) (j : Nat) (hj : j < (K a).2) (hl : j < 2147483648) : jaA (lay K T R) a (Int32.ofNat j) = R a j := by
  rw [lx_a18 h _ (by rw [oi hl]; omega) (by rw [oi hl]; omega), on hl]
theorem lx_l19 (h : (K a).1 = 19) : jalen (lay K T R) a = some (Int32.ofNat (K a).2) := by
  unfold jalen
  rw [lx_c19 h]
theorem lx_t19 (h : (K a).1 = 19) (h8 : 8 ≤ a := by omega) : jisA (lay K T R) a (.array .int) = some () := by
  unfold jisA
  rw [lx_c19 h]
  simp [h8]
theorem lx_a19 (h : (K a).1 = 19) (i : Int32) (h0 : 0 ≤ i.toInt) (h1 : i.toInt < (K a).2) : jaA (lay K T R) a i = R a i.toNatClampNeg := by
  unfold jaA jaR
  rw [lx_c19 h]
  simp only [h0, h1, and_self, and_true]
  rfl
theorem lx_an19 (h : (K a).1 = 19) (j : Nat) (hj : j < (K a).2) (hl : j < 2147483648) : jaA (lay K T R) a (Int32.ofNat j) = R a j := by
  rw [lx_a19 h _ (by rw [oi hl]; omega) (by rw [oi hl]; omega), on hl]
end LX
