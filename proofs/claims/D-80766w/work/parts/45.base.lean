/-! small things of both sides: in, isProfile, isDie, isBar -/
set_option maxRecDepth 100000
theorem ni {i : Int32} (h : 0 ≤ i.toInt) : i = Int32.ofNat i.toNatClampNeg := by
  apply Int32.toInt_inj.mp
  have h2 := i.toInt_lt
  have e : (i.toNatClampNeg : Int) = i.toInt := by unfold Int32.toNatClampNeg; omega
  rw [oi (by omega)]
  exact e.symm
theorem niN {i : Int32} (h : 0 ≤ i.toInt) : (i.toNatClampNeg : Int) = i.toInt := by unfold Int32.toNatClampNeg; omega
theorem lgc (p q : Int64) : (lg_cmp p q < 0 ↔ p.toInt < q.toInt) ∧ (0 < lg_cmp p q ↔ q.toInt < p.toInt) := by
  unfold lg_cmp
  simp only [gt_iff_lt, Int64.lt_iff_toInt_lt, ← Int64.toInt_inj]
  by_cases h1 : q.toInt < p.toInt
  · rw [if_pos h1]; exact ⟨⟨fun h => absurd h (by decide), fun h => by omega⟩, ⟨fun _ => h1, fun _ => by decide⟩⟩
  · rw [if_neg h1]
    by_cases h2 : p.toInt = q.toInt
    · rw [if_pos h2]; exact ⟨⟨fun h => absurd h (by decide), fun h => by omega⟩, ⟨fun h => absurd h (by decide), fun h => absurd h h1⟩⟩
    · rw [if_neg h2]; exact ⟨⟨fun _ => by omega, fun _ => by decide⟩, ⟨fun h => absurd h (by decide), fun h => absurd h h1⟩⟩
theorem in0 (p q r : Int32) (hp : jH) : f_X0_in p q r hp = some (if q.toInt ≤ p.toInt ∧ p.toInt ≤ r.toInt then 1 else 0, hp) := by
  unfold f_X0_in
  simp only [Int32.lt_iff_toInt_lt]
  by_cases h1 : p.toInt < q.toInt
  · rw [if_pos h1, if_neg (by omega)]
  · rw [if_neg h1]
    by_cases h2 : r.toInt < p.toInt
    · rw [if_pos h2, if_neg (by omega)]
    · rw [if_neg h2, if_pos (by omega)]
theorem in5 (p q r : Int64) (hp : jH) : f_X5_in p q r hp = some (if q.toInt ≤ p.toInt ∧ p.toInt ≤ r.toInt then 1 else 0, hp) := by
  unfold f_X5_in
  simp only [lgc]
  by_cases h1 : p.toInt < q.toInt
  · rw [if_pos h1, if_neg (by omega)]
  · rw [if_neg h1]
    by_cases h2 : r.toInt < p.toInt
    · rw [if_pos h2, if_neg (by omega)]
    · rw [if_neg h2, if_pos (by omega)]
theorem jb_some {α β : Type} (a : α) (hp : jH) (f : α → jH → Option β) : jb (some (a, hp)) f = f a hp := rfl
theorem bm {x : Int} (h1 : -2147483648 ≤ x) (h2 : x < 2147483648) : x.bmod (2 ^ 32) = x := Int.bmod_eq_of_le (by omega) (by omega)
theorem m1 {n : Nat} (h : n ≤ 1000) : (Int32.ofNat n - 1).toInt = (n : Int) - 1 := by
  rw [Int32.toInt_sub, oi (by omega)]
  have : (1 : Int32).toInt = 1 := by decide
  rw [this, bm (by omega) (by omega)]
section BASE
variable {c np nd nb ns nj : Nat} {no dp bd jp : Nat → Nat} {ld : Option Nat} {rw : Nat → Option Nat} {rk : Nat → Nat × Nat} {T A : Nat → Nat → Int32} {F GF : Nat → Int32} {L : Nat → Int64} {GA : Nat → Nat → Int32}
theorem isP0 (h : T 8 1 = Int32.ofNat np) (h8 : np ≤ 8) (p : Int32) (R) : f_X0_isProfile 8 p (lay (kX np nd nb no rk) T R) = some (if 0 ≤ p.toInt ∧ p.toInt < np then 1 else 0, lay (kX np nd nb no rk) T R) := by
  unfold f_X0_isProfile
  rw [lx_g0_1 rfl, Option.bind_some, in0, jb_some, h, m1 (by omega)]
  have : (0 : Int32).toInt = 0 := by decide
  rw [this]
  by_cases hp : 0 ≤ p.toInt ∧ p.toInt < np
  · rw [if_pos (show 0 ≤ p.toInt ∧ p.toInt ≤ (np : Int) - 1 by omega), if_pos hp]; rfl
  · rw [if_neg (show ¬ (0 ≤ p.toInt ∧ p.toInt ≤ (np : Int) - 1) by omega), if_neg hp]; rfl
theorem isD0 (h : T 8 3 = Int32.ofNat nd) (h8 : nd ≤ 12) (p : Int32) (R) : f_X0_isDie 8 p (lay (kX np nd nb no rk) T R) = some (if 0 ≤ p.toInt ∧ p.toInt < nd then 1 else 0, lay (kX np nd nb no rk) T R) := by
  unfold f_X0_isDie
  rw [lx_g0_3 rfl, Option.bind_some, in0, jb_some, h, m1 (by omega)]
  have : (0 : Int32).toInt = 0 := by decide
  rw [this]
  by_cases hp : 0 ≤ p.toInt ∧ p.toInt < nd
  · rw [if_pos (show 0 ≤ p.toInt ∧ p.toInt ≤ (nd : Int) - 1 by omega), if_pos hp]; rfl
  · rw [if_neg (show ¬ (0 ≤ p.toInt ∧ p.toInt ≤ (nd : Int) - 1) by omega), if_neg hp]; rfl
theorem isB0 (h : T 8 10 = Int32.ofNat nb) (h8 : nb ≤ 200) (p : Int32) (R) : f_X0_isBar 8 p (lay (kX np nd nb no rk) T R) = some (if 0 ≤ p.toInt ∧ p.toInt < nb then 1 else 0, lay (kX np nd nb no rk) T R) := by
  unfold f_X0_isBar
  rw [lx_g0_10 rfl, Option.bind_some, in0, jb_some, h, m1 (by omega)]
  have : (0 : Int32).toInt = 0 := by decide
  rw [this]
  by_cases hp : 0 ≤ p.toInt ∧ p.toInt < nb
  · rw [if_pos (show 0 ≤ p.toInt ∧ p.toInt ≤ (nb : Int) - 1 by omega), if_pos hp]; rfl
  · rw [if_neg (show ¬ (0 ≤ p.toInt ∧ p.toInt ≤ (nb : Int) - 1) by omega), if_neg hp]; rfl
theorem isP5 (h : F 1 = Int32.ofNat np) (h8 : np ≤ 8) (p : Int32) : f_X5_isProfile 8 p (layM F A L GF GA) = some (if 0 ≤ p.toInt ∧ p.toInt < np then 1 else 0, layM F A L GF GA) := by
  unfold f_X5_isProfile
  rw [lm_g1, Option.bind_some, in5, jb_some, h, Int32.toInt_toInt64, Int32.toInt_toInt64, m1 (by omega)]
  have : (0 : Int64).toInt = 0 := by decide
  rw [this]
  by_cases hp : 0 ≤ p.toInt ∧ p.toInt < np
  · rw [if_pos (show 0 ≤ p.toInt ∧ p.toInt ≤ (np : Int) - 1 by omega), if_pos hp]; rfl
  · rw [if_neg (show ¬ (0 ≤ p.toInt ∧ p.toInt ≤ (np : Int) - 1) by omega), if_neg hp]; rfl
theorem isD5 (h : F 6 = Int32.ofNat nd) (h8 : nd ≤ 12) (p : Int32) : f_X5_isDie 8 p (layM F A L GF GA) = some (if 0 ≤ p.toInt ∧ p.toInt < nd then 1 else 0, layM F A L GF GA) := by
  unfold f_X5_isDie
  rw [lm_g6, Option.bind_some, in5, jb_some, h, Int32.toInt_toInt64, Int32.toInt_toInt64, m1 (by omega)]
  have : (0 : Int64).toInt = 0 := by decide
  rw [this]
  by_cases hp : 0 ≤ p.toInt ∧ p.toInt < nd
  · rw [if_pos (show 0 ≤ p.toInt ∧ p.toInt ≤ (nd : Int) - 1 by omega), if_pos hp]; rfl
  · rw [if_neg (show ¬ (0 ≤ p.toInt ∧ p.toInt ≤ (nd : Int) - 1) by omega), if_neg hp]; rfl
theorem isB5 (h : F 13 = Int32.ofNat nb) (h8 : nb ≤ 200) (p : Int32) : f_X5_isBar 8 p (layM F A L GF GA) = some (if 0 ≤ p.toInt ∧ p.toInt < nb then 1 else 0, layM F A L GF GA) := by
  unfold f_X5_isBar
  rw [lm_g13, Option.bind_some, in5, jb_some, h, Int32.toInt_toInt64, Int32.toInt_toInt64, m1 (by omega)]
  have : (0 : Int64).toInt = 0 := by decide
  rw [this]
  by_cases hp : 0 ≤ p.toInt ∧ p.toInt < nb
  · rw [if_pos (show 0 ≤ p.toInt ∧ p.toInt ≤ (nb : Int) - 1 by omega), if_pos hp]; rfl
  · rw [if_neg (show ¬ (0 ≤ p.toInt ∧ p.toInt ≤ (nb : Int) - 1) by omega), if_neg hp]; rfl
end BASE
