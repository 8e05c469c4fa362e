/-! account -/
set_option maxRecDepth 100000
noncomputable def accE (p : Int32) (hp : jH) : Option (Int32 × jH) := (jalI hp 22).bind fun n => if 0 ≤ p.toInt ∧ p.toInt < (n : Int) then ((jaI hp 22 .int p).bind fun v => (jfg hp 22).bind fun q => some (v, q)) else ((jfg hp 22).bind fun q => some ((-2), q))
def jK2 (np nd nb : Nat) (no : Nat → Nat) (rk : Nat → Nat × Nat) : Nat → Nat × Nat := va_up (kX np nd nb no rk) 22 (11, 7)
def jR2 (np nd nb : Nat) (no dp bd : Nat → Nat) (ld : Option Nat) (rw : Nat → Option Nat) : Nat → Nat → Option Nat := va_up (rX np nd nb no dp bd ld rw) 22 (fun _ => none)
section AC
variable {c c' np nd nb na ns nj : Nat} {no dp bd jp : Nat → Nat} {ld : Option Nat} {rw : Nat → Option Nat} {rk : Nat → Nat × Nat} {T T' A A' : Nat → Nat → Int32} {F F' GF : Nat → Int32} {L : Nat → Int64} {GA : Nat → Nat → Int32}
theorem a_s (j : Nat) (v : Int32) (h : j < 7) : jaSI (lay (jK2 np nd nb no rk) T (jR2 np nd nb no dp bd ld rw)) 22 (Int32.ofNat j) v = some (lay (jK2 np nd nb no rk) (tu T 22 j v) (jR2 np nd nb no dp bd ld rw)) := by
  rw [lx_s11 rfl (by decide) _ v (by rw [oi (by omega)]; omega) (by rw [oi (by omega)]; exact Int.ofNat_lt.mpr h), on (by omega)]
theorem a_i (j : Nat) (h : j < 7) : jaI (lay (jK2 np nd nb no rk) T (jR2 np nd nb no dp bd ld rw)) 22 .int (Int32.ofNat j) = some (T 22 j) := lx_in11 rfl j h (by omega)
theorem a_b {i : Nat} (h : i < nb) (hl : nb ≤ 200) : jaA (lay (jK2 np nd nb no rk) T (jR2 np nd nb no dp bd ld rw)) 15 (Int32.ofNat i) = some (1000 + i) := by
  rw [lx_an16 rfl i (show i < 200 by omega) (by omega)]
  exact (rX_15 (np := np) (nd := nd) (no := no) (dp := dp) (bd := bd) (ld := ld) (rw := rw) h)
theorem a_k {i : Nat} (h : i < nb) : (jK2 np nd nb no rk (1000 + i)).1 = 8 := by
  unfold jK2
  rw [vu_ne _ _ (by omega), kX_bar h]
theorem acc_L (hB : RB c nb nd bd T A F) (p : Int32) : ∀ (m i N : Nat) (S : Nat → Nat → Int32), i + m = nb → m < N → (∀ n j, n ≠ 22 → S n j = T n j) → S 22 3 = isum i (A 14) → S 22 4 = isum i (A 15) → S 22 5 = isum i (A 13) → S 22 6 = isum i (A 12) → ∃ S' : Nat → Nat → Int32, f_X0_account_L37 N 8 p 22 (Int32.ofNat i) (lay (jK2 np nd nb no rk) S (jR2 np nd nb no dp bd ld rw)) = accE p (lay (jK2 np nd nb no rk) S' (jR2 np nd nb no dp bd ld rw)) ∧ (∀ n j, n ≠ 22 → S' n j = T n j) ∧ (S' 22 0 = S 22 0 ∧ S' 22 1 = S 22 1 ∧ S' 22 2 = S 22 2) ∧ S' 22 3 = isum nb (A 14) ∧ S' 22 4 = isum nb (A 15) ∧ S' 22 5 = isum nb (A 13) ∧ S' 22 6 = isum nb (A 12)
  | m, i, 0, _, _, h, _, _, _, _, _ => absurd h (Nat.not_lt_zero m)
  | 0, i, N + 1, S, e, _, hS, h3, h4, h5, h6 => by
    obtain ⟨b2, bF, bT, bt, bb⟩ := id hB
    have e' : i = nb := by omega
    subst e'
    refine ⟨S, ?_, hS, ⟨rfl, rfl, rfl⟩, h3, h4, h5, h6⟩
    rw [f_X0_account_L37, lx_g0_10 rfl, Option.bind_some, hS 8 10 (by decide), bT, if_pos (by rw [on_le (by omega) (by omega)]; exact Nat.le_refl _)]
    rfl
  | m + 1, i, N + 1, S, e, hN, hS, h3, h4, h5, h6 => by
    obtain ⟨b2, bF, bT, bt, bb⟩ := id hB
    have hi : i < nb := by omega
    obtain ⟨q1, ⟨t1, t2, t3, t4, t5, t6⟩, q3, q4, q5⟩ := bb i hi
    have g10 : ∀ S', jgI (lay (jK2 np nd nb no rk) S' (jR2 np nd nb no dp bd ld rw)) 8 0 10 = some (S' 8 10) := fun S' => lx_g0_10 rfl
    have g9 : ∀ S', jgA (lay (jK2 np nd nb no rk) S' (jR2 np nd nb no dp bd ld rw)) 8 0 9 = some 15 := fun S' => lx_g0_9 rfl
    have ab : ∀ S', jaA (lay (jK2 np nd nb no rk) S' (jR2 np nd nb no dp bd ld rw)) 15 (Int32.ofNat i) = some (1000 + i) := fun S' => a_b hi b2
    have x1 : ∀ S', jgI (lay (jK2 np nd nb no rk) S' (jR2 np nd nb no dp bd ld rw)) (1000 + i) 7 1 = some (S' (1000 + i) 1) := fun S' => lx_g7_1 (a_k hi)
    have x2 : ∀ S', jgI (lay (jK2 np nd nb no rk) S' (jR2 np nd nb no dp bd ld rw)) (1000 + i) 7 2 = some (S' (1000 + i) 2) := fun S' => lx_g7_2 (a_k hi)
    have x3 : ∀ S', jgI (lay (jK2 np nd nb no rk) S' (jR2 np nd nb no dp bd ld rw)) (1000 + i) 7 3 = some (S' (1000 + i) 3) := fun S' => lx_g7_3 (a_k hi)
    have x4 : ∀ S', jgI (lay (jK2 np nd nb no rk) S' (jR2 np nd nb no dp bd ld rw)) (1000 + i) 7 4 = some (S' (1000 + i) 4) := fun S' => lx_g7_4 (a_k hi)
    have i3 : ∀ S', jaI (lay (jK2 np nd nb no rk) S' (jR2 np nd nb no dp bd ld rw)) 22 .int 3 = some (S' 22 3) := fun S' => a_i 3 (by decide)
    have i4 : ∀ S', jaI (lay (jK2 np nd nb no rk) S' (jR2 np nd nb no dp bd ld rw)) 22 .int 4 = some (S' 22 4) := fun S' => a_i 4 (by decide)
    have i5 : ∀ S', jaI (lay (jK2 np nd nb no rk) S' (jR2 np nd nb no dp bd ld rw)) 22 .int 5 = some (S' 22 5) := fun S' => a_i 5 (by decide)
    have i6 : ∀ S', jaI (lay (jK2 np nd nb no rk) S' (jR2 np nd nb no dp bd ld rw)) 22 .int 6 = some (S' 22 6) := fun S' => a_i 6 (by decide)
    have s3 : ∀ S' v, jaSI (lay (jK2 np nd nb no rk) S' (jR2 np nd nb no dp bd ld rw)) 22 3 v = some (lay (jK2 np nd nb no rk) (tu S' 22 3 v) (jR2 np nd nb no dp bd ld rw)) := fun S' v => a_s 3 v (by decide)
    have s4 : ∀ S' v, jaSI (lay (jK2 np nd nb no rk) S' (jR2 np nd nb no dp bd ld rw)) 22 4 v = some (lay (jK2 np nd nb no rk) (tu S' 22 4 v) (jR2 np nd nb no dp bd ld rw)) := fun S' v => a_s 4 v (by decide)
    have s5 : ∀ S' v, jaSI (lay (jK2 np nd nb no rk) S' (jR2 np nd nb no dp bd ld rw)) 22 5 v = some (lay (jK2 np nd nb no rk) (tu S' 22 5 v) (jR2 np nd nb no dp bd ld rw)) := fun S' v => a_s 5 v (by decide)
    have s6 : ∀ S' v, jaSI (lay (jK2 np nd nb no rk) S' (jR2 np nd nb no dp bd ld rw)) 22 6 v = some (lay (jK2 np nd nb no rk) (tu S' 22 6 v) (jR2 np nd nb no dp bd ld rw)) := fun S' v => a_s 6 v (by decide)
    have hle : ¬ nb ≤ i := by omega
    have w1 : S (1000 + i) 1 = A 12 i := by rw [hS _ _ (by omega)]; exact t1
    have w2 : S (1000 + i) 2 = A 13 i := by rw [hS _ _ (by omega)]; exact t2
    have w3 : S (1000 + i) 3 = A 14 i := by rw [hS _ _ (by omega)]; exact t3
    have w4 : S (1000 + i) 4 = A 15 i := by rw [hS _ _ (by omega)]; exact t4
    have w10 : S 8 10 = Int32.ofNat nb := by rw [hS _ _ (by decide)]; exact bT
    obtain ⟨S', r1, r2, r3, r4⟩ := acc_L hB p m (i + 1) N (tu (tu (tu (tu S 22 3 (isum i (A 14) + A 14 i)) 22 4 (isum i (A 15) + A 15 i)) 22 5 (isum i (A 13) + A 13 i)) 22 6 (isum i (A 12) + A 12 i)) (by omega) (by omega) (fun n j h => by rw [tu_ne _ _ _ h, tu_ne _ _ _ h, tu_ne _ _ _ h, tu_ne _ _ _ h]; exact hS n j h) rfl rfl rfl rfl
    refine ⟨S', ?_, r2, r3, r4⟩
    rw [f_X0_account_L37]
    simp -implicitDefEqProofs (disch := omega) only [g10, g9, ab, x1, x2, x3, x4, i3, i4, i5, i6, s3, s4, s5, s6, Option.bind_some, w10, on_le, hle, if_false, tu_ne, tu_nk, tu_at, w1, w2, w3, w4, h3, h4, h5, h6, on1]
    exact r1
end AC
