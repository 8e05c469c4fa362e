/-! calls that change nothing that counts -/
set_option maxRecDepth 100000
theorem Rel_succ {c np nd nb ns nj : Nat} {no dp bd jp : Nat → Nat} {ld : Option Nat} {rw : Nat → Option Nat} {rk : Nat → Nat × Nat} {T A : Nat → Nat → Int32} {F : Nat → Int32} {L : Nat → Int64} (h : Rel c np nd nb ns nj no dp bd jp ld rw rk T A F L) : Rel (c + 1) np nd nb ns nj no dp bd jp ld rw rk T A F L := by
  obtain ⟨hP, hD, hB, h⟩ := h
  exact ⟨hP, RD_congr (Nat.le_succ c) (fun _ _ _ => rfl) (fun _ _ _ => rfl) (fun _ _ => rfl) hD, RB_congr (Nat.le_succ c) (fun _ _ _ => rfl) (fun _ _ _ => rfl) (fun _ _ => rfl) hB, h⟩
theorem Rst_mk {c np nd nb ns nj : Nat} {no dp bd jp : Nat → Nat} {ld : Option Nat} {rw : Nat → Option Nat} {rk : Nat → Nat × Nat} {T A : Nat → Nat → Int32} {F : Nat → Int32} {L : Nat → Int64} {GF : Nat → Int32} {GA : Nat → Nat → Int32} (h : Rel c np nd nb ns nj no dp bd jp ld rw rk T A F L) : Rst c (lay (kX np nd nb no rk) T (rX np nd nb no dp bd ld rw)) (layM F A L GF GA) := ⟨np, nd, nb, ns, nj, no, dp, bd, jp, ld, rw, rk, T, A, F, L, GF, GA, rfl, rfl, h⟩
theorem alike_mk {α : Type} {fx fm : jH → Option (α × jH)} (h : ∀ (c np nd nb ns nj : Nat) (no dp bd jp : Nat → Nat) (ld : Option Nat) (rw : Nat → Option Nat) (rk : Nat → Nat × Nat) (T A : Nat → Nat → Int32) (F : Nat → Int32) (L : Nat → Int64) (GF : Nat → Int32) (GA : Nat → Nat → Int32), c < 64 → Rel c np nd nb ns nj no dp bd jp ld rw rk T A F L → ∃ (r : α) (hx' hm' : jH), fx (lay (kX np nd nb no rk) T (rX np nd nb no dp bd ld rw)) = some (r, hx') ∧ fm (layM F A L GF GA) = some (r, hm') ∧ Rst (c + 1) hx' hm') : alike fx fm := by
  intro c hx hm hc hr
  obtain ⟨np, nd, nb, ns, nj, no, dp, bd, jp, ld, rw, rk, T, A, F, L, GF, GA, rfl, rfl, hR⟩ := hr
  exact h c np nd nb ns nj no dp bd jp ld rw rk T A F L GF GA hc hR
section AT
variable {c c' np nd nb na ns nj : Nat} {no dp bd jp : Nat → Nat} {ld : Option Nat} {rw : Nat → Option Nat} {rk : Nat → Nat × Nat} {T T' A A' : Nat → Nat → Int32} {F F' GF : Nat → Int32} {L : Nat → Int64} {GA : Nat → Nat → Int32}
theorem RD_at (hc : c ≤ c') {d : Nat} (hd : d < nd) (hT : ∀ n j, (n = 8 ∧ (j = 3 ∨ j = 4)) ∨ (200 ≤ n ∧ n < 212 ∧ n ≠ 200 + d) → T' n j = T n j) (hA : ∀ n j, (n = 6 ∨ n = 7 ∨ n = 8 ∨ n = 9 ∨ n = 10) ∧ j ≠ d → A' n j = A n j) (hF : ∀ k, k = 6 ∨ k = 12 → F' k = F k)
    (hn : dp d < np ∧ A' 6 d = Int32.ofNat (dp d) ∧ T' (200 + d) 1 = Int32.ofNat d ∧ T' (200 + d) 2 = A' 7 d ∧ T' (200 + d) 3 = A' 8 d ∧ T' (200 + d) 4 = A' 9 d ∧ ((A' 10 d = -1 ∧ T' (200 + d) 5 = 0) ∨ (A' 10 d ≠ -1 ∧ T' (200 + d) 5 = 1 ∧ T' (200 + d) 6 = A' 10 d))) (h : RD c nd np dp T A F) : RD c' nd np dp T' A' F' := by
  obtain ⟨h8, h1, h2, h3, h4⟩ := h
  refine ⟨h8, by rw [hF 6 (by decide)]; exact h1, by rw [hT _ _ (by omega)]; exact h2, by rw [hT _ _ (by omega), hF 12 (by decide)]; exact ⟨h3.1, h3.2.1, by omega⟩, fun e he => ?_⟩
  by_cases hde : e = d
  · subst hde; exact hn
  · have := h4 e he
    rw [hT (200 + e) 1 (by omega), hT (200 + e) 2 (by omega), hT (200 + e) 3 (by omega), hT (200 + e) 4 (by omega), hT (200 + e) 5 (by omega), hT (200 + e) 6 (by omega), hA 6 e (by omega), hA 7 e (by omega), hA 8 e (by omega), hA 9 e (by omega), hA 10 e (by omega)]
    exact this
theorem RB_at (hc : c ≤ c') {i : Nat} (hi : i < nb) (hT : ∀ n j, (n = 8 ∧ (j = 10 ∨ j = 25)) ∨ (1000 ≤ n ∧ n < 1200 ∧ n ≠ 1000 + i) → T' n j = T n j) (hA : ∀ n j, (11 ≤ n ∧ n ≤ 18) ∧ j ≠ i → A' n j = A n j) (hF : ∀ k, k = 13 ∨ k = 45 → F' k = F k)
    (hn : (bd i < nd ∧ A' 11 i = Int32.ofNat (bd i)) ∧ (T' (1000 + i) 1 = A' 12 i ∧ T' (1000 + i) 2 = A' 13 i ∧ T' (1000 + i) 3 = A' 14 i ∧ T' (1000 + i) 4 = A' 15 i ∧ T' (1000 + i) 5 = A' 16 i ∧ T' (1000 + i) 6 = A' 17 i) ∧
    ((A' 18 i = -1 ∧ T' (1000 + i) 7 = 0) ∨ (A' 18 i = 0 ∧ T' (1000 + i) 7 = 2) ∨ (A' 18 i = 1 ∧ T' (1000 + i) 7 = 1)) ∧
    0 ≤ (A' 14 i).toInt ∧ (A' 17 i = -1 ∨ (0 ≤ (A' 17 i).toInt ∧ (A' 17 i).toInt < (F' 45).toInt))) (h : RB c nb nd bd T A F) : RB c' nb nd bd T' A' F' := by
  obtain ⟨h8, h1, h2, h3, h4⟩ := h
  refine ⟨h8, by rw [hF 13 (by decide)]; exact h1, by rw [hT _ _ (by omega)]; exact h2, by rw [hT _ _ (by omega), hF 45 (by decide)]; exact ⟨h3.1, h3.2.1, by omega⟩, fun e he => ?_⟩
  by_cases hde : e = i
  · subst hde; exact hn
  · have := h4 e he
    rw [hT (1000 + e) 1 (by omega), hT (1000 + e) 2 (by omega), hT (1000 + e) 3 (by omega), hT (1000 + e) 4 (by omega), hT (1000 + e) 5 (by omega), hT (1000 + e) 6 (by omega), hT (1000 + e) 7 (by omega), hA 11 e (by omega), hA 12 e (by omega), hA 13 e (by omega), hA 14 e (by omega), hA 15 e (by omega), hA 16 e (by omega), hA 17 e (by omega), hA 18 e (by omega), hF 45 (by decide)]
    exact this
end AT
theorem in_nat {p : Int32} {n : Nat} (h : 0 ≤ p.toInt ∧ p.toInt < n) : ∃ d : Nat, d < n ∧ p = Int32.ofNat d := ⟨p.toNatClampNeg, by have := niN h.1; omega, ni h.1⟩
theorem ex_in {d n : Nat} (h : d < n) (hn : n ≤ 1000) : 0 ≤ (Int32.ofNat d).toInt ∧ (Int32.ofNat d).toInt < (n : Int) := by rw [oi (by omega)]; omega
theorem one0 : ((1 : Int32) = 0) = False := by decide
theorem law_warm (p : Int32) : alike (f_X0_warm 8 p) (f_X5_warm 8 p) := by
  refine alike_mk fun c np nd nb ns nj no dp bd jp ld rw rk T A F L GF GA hc hR => ?_
  obtain ⟨hP, hD, hB, hA, hL, hT, hK, hJ, hO, hS⟩ := id hR
  obtain ⟨d12, dF, dT, dt, dd⟩ := id hD
  unfold f_X0_warm f_X5_warm
  simp only [y_is, lm_is, Option.bind_some, isD0 dT d12, isD5 dF d12, jb_some]
  by_cases hp : 0 ≤ p.toInt ∧ p.toInt < nd
  · obtain ⟨d, hd, rfl⟩ := in_nat hp
    obtain ⟨q1, q2, q3, q4, q5, q6, q7⟩ := dd d hd
    have d12' : d < 12 := by omega
    simp only [if_pos hp, y_g2, y10_a d hd d12, Option.bind_some, yd_g5 hd d12, yd_p5 hd d12, yd_p6 hd d12, y_g4, lm_g11, lm_n10 d d12', lm_g12, lm_sn10 d _ d12', one0, if_false]
    simp (disch := omega) only [tu_ne]
    rcases q7 with ⟨w1, w2⟩ | ⟨w1, w2, w3⟩
    · simp only [w1, w2, if_true]
      refine ⟨_, _, _, rfl, rfl, Rst_mk (ns := ns) (nj := nj) (jp := jp) ⟨RP_congr (by intro n j h; first | rfl | (unfold tu; (repeat rw [if_neg (by omega)]); done) | (simp only [tu, va_up]; repeat rw [if_neg (by omega)])) (by intro n j h; first | rfl | (unfold tu; (repeat rw [if_neg (by omega)]); done) | (simp only [tu, va_up]; repeat rw [if_neg (by omega)])) (by first | rfl | (unfold va_up; repeat rw [if_neg (by omega)])) hP, ?_, RB_congr (Nat.le_succ c) (by intro n j h; first | rfl | (unfold tu; (repeat rw [if_neg (by omega)]); done) | (simp only [tu, va_up]; repeat rw [if_neg (by omega)])) (by intro n j h; first | rfl | (unfold tu; (repeat rw [if_neg (by omega)]); done) | (simp only [tu, va_up]; repeat rw [if_neg (by omega)])) (by intro k h; first | rfl | (unfold va_up; repeat rw [if_neg (by omega)])) hB, RA_congr (by intro n j h; first | rfl | (unfold tu; (repeat rw [if_neg (by omega)]); done) | (simp only [tu, va_up]; repeat rw [if_neg (by omega)])) (by intro n j h; first | rfl | (unfold tu; (repeat rw [if_neg (by omega)]); done) | (simp only [tu, va_up]; repeat rw [if_neg (by omega)])) hA, RL_congr (by intro n j h; first | rfl | (unfold tu; (repeat rw [if_neg (by omega)]); done) | (simp only [tu, va_up]; repeat rw [if_neg (by omega)])) (by intro n j h; first | rfl | (unfold tu; (repeat rw [if_neg (by omega)]); done) | (simp only [tu, va_up]; repeat rw [if_neg (by omega)])) hL, RT_congr (by first | rfl | (unfold tu; repeat rw [if_neg (by omega)])) (by intro k h; first | rfl | (unfold va_up; repeat rw [if_neg (by omega)])) hT, RK_congr (by intro n j h; first | rfl | (unfold tu; (repeat rw [if_neg (by omega)]); done) | (simp only [tu, va_up]; repeat rw [if_neg (by omega)])) (by intro n j h; first | rfl | (unfold tu; (repeat rw [if_neg (by omega)]); done) | (simp only [tu, va_up]; repeat rw [if_neg (by omega)])) (by first | rfl | (unfold va_up; repeat rw [if_neg (by omega)])) hK, RJ_congr (by intro n j h; first | rfl | (unfold tu; (repeat rw [if_neg (by omega)]); done) | (simp only [tu, va_up]; repeat rw [if_neg (by omega)])) (by intro n j h; first | rfl | (unfold tu; (repeat rw [if_neg (by omega)]); done) | (simp only [tu, va_up]; repeat rw [if_neg (by omega)])) (by intro k h; first | rfl | (unfold va_up; repeat rw [if_neg (by omega)])) hJ, RO_congr (by intro n j h; first | rfl | (unfold tu; (repeat rw [if_neg (by omega)]); done) | (simp only [tu, va_up]; repeat rw [if_neg (by omega)])) (by intro k h; first | rfl | (unfold va_up; repeat rw [if_neg (by omega)])) hO, RS_congr (by intro n j h; first | rfl | (unfold tu; (repeat rw [if_neg (by omega)]); done) | (simp only [tu, va_up]; repeat rw [if_neg (by omega)])) (by intro n j h; first | rfl | (unfold tu; (repeat rw [if_neg (by omega)]); done) | (simp only [tu, va_up]; repeat rw [if_neg (by omega)])) hS⟩⟩
      refine RD_at (Nat.le_succ c) hd (by intro n j h; first | rfl | (unfold tu; (repeat rw [if_neg (by omega)]); done) | (simp only [tu, va_up]; repeat rw [if_neg (by omega)])) (by intro n j h; first | rfl | (unfold tu; (repeat rw [if_neg (by omega)]); done) | (simp only [tu, va_up]; repeat rw [if_neg (by omega)])) (by intro k h; first | rfl | (unfold va_up; repeat rw [if_neg (by omega)])) ?_ hD
      refine ⟨q1, ?_, ?_, ?_, ?_, ?_, .inr ⟨?_, ?_, ?_⟩⟩ <;> simp [tu, *]
      intro e
      have := dt.2.1
      rw [e] at this
      revert this
      decide
    · simp only [if_false, w1, w2, one0]
      exact ⟨_, _, _, rfl, rfl, Rst_mk (Rel_succ hR)⟩
  · simp only [if_neg hp, if_true]
    exact ⟨_, _, _, rfl, rfl, Rst_mk (Rel_succ hR)⟩
