/-! account, told -/
set_option maxRecDepth 100000
section AD
variable {c c' np nd nb na ns nj : Nat} {no dp bd jp : Nat → Nat} {ld : Option Nat} {rw : Nat → Option Nat} {rk : Nat → Nat × Nat} {T T' A A' : Nat → Nat → Int32} {F F' GF : Nat → Int32} {L : Nat → Int64} {GA : Nat → Nat → Int32}
theorem acc_at {S : Nat → Nat → Int32} (hS : ∀ n j, n ≠ 22 → S n j = T n j) {i : Nat} (h : i ≠ 22) : lay (jK2 np nd nb no rk) S (jR2 np nd nb no dp bd ld rw) i = (lay (kX np nd nb no rk) T (rX np nd nb no dp bd ld rw)) i := by
  unfold lay jK2 jR2
  rw [vu_ne _ _ h, vu_ne _ _ h, show S i = T i from funext fun j => hS i j h]
theorem acc_del {S : Nat → Nat → Int32} (hS : ∀ n j, n ≠ 22 → S n j = T n j) : jdel (lay (jK2 np nd nb no rk) S (jR2 np nd nb no dp bd ld rw)) 22 = (lay (kX np nd nb no rk) T (rX np nd nb no dp bd ld rw)) := by
  funext i
  unfold jdel
  by_cases h : i = 22
  · rw [if_pos h]
    subst h
    rfl
  · rw [if_neg h, acc_at hS h]
theorem acc_fg (hR : Rel c np nd nb ns nj no dp bd jp ld rw rk T A F L) {S : Nat → Nat → Int32} (hS : ∀ n j, n ≠ 22 → S n j = T n j) : jfg (lay (jK2 np nd nb no rk) S (jR2 np nd nb no dp bd ld rw)) 22 = some (lay (kX np nd nb no rk) T (rX np nd nb no dp bd ld rw)) := by
  rw [jfg_of, acc_del hS]
  intro i o hi ho
  rw [acc_del hS]
  rw [acc_at hS hi] at ho
  exact lay_clo hR i o ho
theorem account_eq (hR : Rel c np nd nb ns nj no dp bd jp ld rw rk T A F L) (p : Int32) : ∃ r, f_X0_account 8 p (lay (kX np nd nb no rk) T (rX np nd nb no dp bd ld rw)) = some (r, (lay (kX np nd nb no rk) T (rX np nd nb no dp bd ld rw))) ∧ f_X5_account 8 p (layM F A L GF GA) = some (r, (layM F A L GF GA)) := by
  obtain ⟨hP, hD, hB, hA, hL, hT, hK, hJ, hO, hS⟩ := id hR
  obtain ⟨a0, a1, a2, a3, a4, a5, a6, a7, a8⟩ := id hA
  have b2 : nb ≤ 200 := hB.1
  have j1 := jnew_lay (K := kX np nd nb no rk) (T := T) (R := rX np nd nb no dp bd ld rw) (a := 22) (11, 7) (fun _ => 0) (fun _ => none) rfl (by decide) (o := .inl (.int, 7, .inl (fun _ => 0))) rfl
  have j1' : jnew (lay (kX np nd nb no rk) T (rX np nd nb no dp bd ld rw)) 22 (.inl (.int, 7, .inl (fun _ => 0))) = some (lay (jK2 np nd nb no rk) (va_up T 22 (fun _ => 0)) (jR2 np nd nb no dp bd ld rw)) := j1
  have g6 : ∀ S, jgA (lay (jK2 np nd nb no rk) S (jR2 np nd nb no dp bd ld rw)) 8 0 6 = some 12 := fun S => lx_g0_6 rfl
  have g7 : ∀ S, jgA (lay (jK2 np nd nb no rk) S (jR2 np nd nb no dp bd ld rw)) 8 0 7 = some 13 := fun S => lx_g0_7 rfl
  have g8 : ∀ S, jgA (lay (jK2 np nd nb no rk) S (jR2 np nd nb no dp bd ld rw)) 8 0 8 = some 14 := fun S => lx_g0_8 rfl
  have e1 : ∀ S, jgI (lay (jK2 np nd nb no rk) S (jR2 np nd nb no dp bd ld rw)) 12 1 0 = some (S 12 0) := fun S => lx_g1_0 rfl
  have e2 : ∀ S, jgI (lay (jK2 np nd nb no rk) S (jR2 np nd nb no dp bd ld rw)) 13 1 0 = some (S 13 0) := fun S => lx_g1_0 rfl
  have e3 : ∀ S, jgI (lay (jK2 np nd nb no rk) S (jR2 np nd nb no dp bd ld rw)) 14 2 0 = some (S 14 0) := fun S => lx_g2_0 rfl
  have s0 : ∀ S v, jaSI (lay (jK2 np nd nb no rk) S (jR2 np nd nb no dp bd ld rw)) 22 0 v = some (lay (jK2 np nd nb no rk) (tu S 22 0 v) (jR2 np nd nb no dp bd ld rw)) := fun S v => a_s 0 v (by decide)
  have s1 : ∀ S v, jaSI (lay (jK2 np nd nb no rk) S (jR2 np nd nb no dp bd ld rw)) 22 1 v = some (lay (jK2 np nd nb no rk) (tu S 22 1 v) (jR2 np nd nb no dp bd ld rw)) := fun S v => a_s 1 v (by decide)
  have s2 : ∀ S v, jaSI (lay (jK2 np nd nb no rk) S (jR2 np nd nb no dp bd ld rw)) 22 2 v = some (lay (jK2 np nd nb no rk) (tu S 22 2 v) (jR2 np nd nb no dp bd ld rw)) := fun S v => a_s 2 v (by decide)
  obtain ⟨S', r1, r2, ⟨r3, r4, r5⟩, r6, r7, r8, r9⟩ := acc_L (np := np) (no := no) (dp := dp) (ld := ld) (rw := rw) (rk := rk) hB p nb 0 300 (tu (tu (tu (va_up T 22 (fun _ => 0)) 22 0 (T 12 0)) 22 1 (T 13 0)) 22 2 (T 14 0)) (by omega) (by omega) (fun n j h => by rw [tu_ne _ _ _ h, tu_ne _ _ _ h, tu_ne _ _ _ h, vu_ne _ _ h]) rfl rfl rfl rfl
  have hx : f_X0_account 8 p (lay (kX np nd nb no rk) T (rX np nd nb no dp bd ld rw)) = accE p (lay (jK2 np nd nb no rk) S' (jR2 np nd nb no dp bd ld rw)) := by
    unfold f_X0_account
    rw [j1', ← r1]
    simp -implicitDefEqProofs (disch := omega) only [g6, g7, g8, e1, e2, e3, s0, s1, s2, Option.bind_some, tu_ne, vu_ne]
    rfl
  have hl : jalI (lay (jK2 np nd nb no rk) S' (jR2 np nd nb no dp bd ld rw)) 22 = some 7 := by
    unfold jalI
    rw [show lay (jK2 np nd nb no rk) S' (jR2 np nd nb no dp bd ld rw) 22 = some (.inl (.int, 7, .inl (S' 22))) from rfl]
    rfl
  rw [hx]
  unfold accE f_X5_account
  rw [hl, Option.bind_some, acc_fg hR r2]
  simp only [in5, jb_some, Int32.toInt_toInt64, k32_0, k64_0, k32_1, k64_1, k32_2, k64_2, k32_3, k64_3, k32_4, k64_4, k32_5, k64_5, k32_6, k64_6, k32_7, k64_7, k32_8, k64_8, k32_12, k64_12, k32_20, k64_20, k32_50, k64_50, k32_60, k64_60, k32_80, k64_80, k32_100, k64_100, k32_200, k64_200, k32_500, k64_500, k32_1000, k64_1000, k32_1200, k64_1200, k32_5000, k64_5000, k32_9000, k64_9000, k32_9999, k64_9999, k32_20000, k64_20000, k32_200000, k64_200000, k32_1000000, k64_1000000, lm_g24, lm_a19, Option.bind_some]
  by_cases h : 0 ≤ p.toInt ∧ p.toInt < ((7 : Nat) : Int)
  · obtain ⟨d, hd, rfl⟩ := in_nat h
    rw [if_pos h, a_i d hd, Option.bind_some]
    have h' : 0 ≤ (Int32.ofNat d).toInt ∧ (Int32.ofNat d).toInt ≤ 6 := by omega
    have h7 : 0 ≤ (Int32.ofNat d).toInt ∧ (Int32.ofNat d).toInt < 7 := by omega
    rw [if_pos h', if_neg (by decide), if_pos h7]
    refine ⟨_, rfl, ?_⟩
    rw [Option.bind_some, on (by omega)]
    have : d = 0 ∨ d = 1 ∨ d = 2 ∨ d = 3 ∨ d = 4 ∨ d = 5 ∨ d = 6 := by omega
    rcases this with rfl | rfl | rfl | rfl | rfl | rfl | rfl
    · rw [r3, ← a0]; rfl
    · rw [r4, ← a1]; rfl
    · rw [r5, ← a2]; rfl
    · rw [r6, ← a3]
    · rw [r7, ← a4]
    · rw [r8, ← a5]
    · rw [r9, ← a6]
  · have h' : ¬ (0 ≤ p.toInt ∧ p.toInt ≤ 6) := by omega
    rw [if_neg h, if_neg h', if_pos rfl]
    exact ⟨_, rfl, rfl⟩
theorem law_account (p : Int32) : alike (f_X0_account 8 p) (f_X5_account 8 p) := by
  refine alike_mk fun c np nd nb ns nj no dp bd jp ld rw rk T A F L GF GA hc hR => ?_
  obtain ⟨hP, hD, hB, hA, hL, hT, hK, hJ, hO, hS⟩ := id hR
  obtain ⟨r, h1, h2⟩ := account_eq (GF := GF) (GA := GA) hR p
  exact ⟨r, _, _, h1, h2, Rst_mk (Rel_succ hR)⟩
end AD
