/-! the component's heap tells of live cells alone -/
set_option maxRecDepth 100000
/-- a kind of cell -/
def kok (k : Nat) : Prop := (1 ≤ k ∧ k ≤ 9) ∨ (11 ≤ k ∧ k ≤ 19)
theorem cel_some {k : Nat × Nat} {f : Nat → Int32} {r : Nat → Option Nat} (h : kok k.1) : cel k f r ≠ none := by
  obtain ⟨a, b⟩ := k
  have : a = 1 ∨ a = 2 ∨ a = 3 ∨ a = 4 ∨ a = 5 ∨ a = 6 ∨ a = 7 ∨ a = 8 ∨ a = 9 ∨ a = 11 ∨ a = 12 ∨ a = 13 ∨ a = 14 ∨ a = 15 ∨ a = 16 ∨ a = 17 ∨ a = 18 ∨ a = 19 := by
    unfold kok at h
    dsimp only at h
    omega
  rcases this with rfl | rfl | rfl | rfl | rfl | rfl | rfl | rfl | rfl | rfl | rfl | rfl | rfl | rfl | rfl | rfl | rfl | rfl <;> (intro h; cases h)
theorem rf_ref {x : Option Nat} {m : Nat} (h : va_rf x = .ref m) : x = some m := by
  cases x with
  | none => cases h
  | some y => cases h; rfl
theorem clo_lay {K : Nat → Nat × Nat} {T : Nat → Nat → Int32} {R : Nat → Nat → Option Nat} {hp : jH} {n : Nat} {o : jO} (hl : lay K T R n = some o) (hR : ∀ k m, R n k = some m → hp m ≠ none) : jclo hp o := by
  unfold lay cel at hl
  have key : ∀ x m, va_rf x = .ref m → (∃ k, x = R n k) → hp m ≠ none := fun x m h ⟨k, hk⟩ => hR k m (by rw [← hk]; exact rf_ref h)
  split at hl <;> first | (cases hl; done) | skip
  all_goals
    cases hl
    first
    | (intro v hv m hm
       subst hm
       simp only [List.mem_cons, List.not_mem_nil, or_false] at hv
       repeat (rcases hv with h | hv; · first | (cases h; done) | exact key _ _ h.symm ⟨_, rfl⟩)
       first | (cases hv; done) | exact key _ _ hv.symm ⟨_, rfl⟩)
    | exact trivial
    | (intro j m hm
       exact hR j m hm)
