/-! new objects: kinds and references -/
set_option maxRecDepth 100000
theorem jnew_lay {K : Nat → Nat × Nat} {T : Nat → Nat → Int32} {R : Nat → Nat → Option Nat} {a : Nat} (k : Nat × Nat) (f : Nat → Int32) (r : Nat → Option Nat) {o : jO} (h : K a = (0, 0)) (h8 : 8 ≤ a) (ho : cel k f r = some o) : jnew (lay K T R) a o = some (lay (va_up K a k) (va_up T a f) (va_up R a r)) := by
  have e : lay K T R a = none := by unfold lay; rw [h]; rfl
  unfold jnew
  rw [e]
  show (if 8 ≤ a then some (jset (lay K T R) a o) else none) = _
  rw [if_pos h8, lx_set K T R a k f r ho]
theorem jaSR_of {K : Nat → Nat × Nat} {T : Nat → Nat → Int32} {R : Nat → Nat → Option Nat} {a b ci len j : Nat} {C : String} {fs : List Value} {f : Nat → Option Nat} (ha : lay K T R a = some (.inl (.object C, len, .inr (.inr (.inr (.inr f)))))) (hb : lay K T R b = some (.inr (ci, fs))) (hj : j < len) (hl : j < 2147483648) (h8 : 8 ≤ a) : jaSR (lay K T R) a C (Int32.ofNat j) b ci = some (jset (lay K T R) a (.inl (.object C, len, .inr (.inr (.inr (.inr (va_up f j (some b)))))))) := by
  unfold jaSR
  rw [ha, hb]
  show (if _ ∧ _ ∧ _ ∧ _ ∧ _ then _ else _) = _
  rw [if_pos ⟨rfl, rfl, by rw [oi hl]; omega, by rw [oi hl]; omega, h8⟩, on hl]
section NW
variable {np nd nb : Nat} {no dp bd : Nat → Nat} {ld : Option Nat} {rw : Nat → Option Nat} {rk : Nat → Nat × Nat} {T : Nat → Nat → Int32} {R : Nat → Nat → Option Nat}
theorem y9_s (j : Nat) (h : j < 8) (p : Nat) (hp : p < np) (h8 : np ≤ 8) : jaSR (lay (kX np nd nb no rk) T R) 9 "BilletBars$Profile" (Int32.ofNat j) (64 + 16 * p) 4 = some (lay (kX np nd nb no rk) T (ru R 9 j (some (64 + 16 * p)))) := by
  rw [jaSR_of (lx_c14 rfl) (lx_c4 (by rw [kX_prof hp h8])) (show j < 8 from h) (by omega) (by decide), lx_setR _ T R 9 (va_up (R 9) j (some (64 + 16 * p))) rfl, ru_eq]
theorem y10_s (j : Nat) (h : j < 12) (d : Nat) (hd : d < nd) (h12 : nd ≤ 12) : jaSR (lay (kX np nd nb no rk) T R) 10 "BilletBars$Die" (Int32.ofNat j) (200 + d) 6 = some (lay (kX np nd nb no rk) T (ru R 10 j (some (200 + d)))) := by
  rw [jaSR_of (lx_c15 rfl) (lx_c6 (by rw [kX_die hd h12])) (show j < 12 from h) (by omega) (by decide), lx_setR _ T R 10 (va_up (R 10) j (some (200 + d))) rfl, ru_eq]
theorem y15_s (j : Nat) (h : j < 200) (i : Nat) (hi : i < nb) : jaSR (lay (kX np nd nb no rk) T R) 15 "BilletBars$Bar" (Int32.ofNat j) (1000 + i) 7 = some (lay (kX np nd nb no rk) T (ru R 15 j (some (1000 + i)))) := by
  rw [jaSR_of (lx_c16 rfl) (lx_c7 (by rw [kX_bar hi])) (show j < 200 from h) (by omega) (by decide), lx_setR _ T R 15 (va_up (R 15) j (some (1000 + i))) rfl, ru_eq]
theorem ye_s {p : Nat} (hp : p < np) (h8 : np ≤ 8) (hn : no p ≠ 0) (h3 : no p ≤ 3) (j : Nat) (h : j < 10) (k : Nat) (hk : k < no p) : jaSR (lay (kX np nd nb no rk) T R) (64 + 16 * p + 2) "java/lang/Object" (Int32.ofNat j) (64 + 16 * p + 3 + k) 8 = some (lay (kX np nd nb no rk) T (ru R (64 + 16 * p + 2) j (some (64 + 16 * p + 3 + k)))) := by
  have e := kX_elem (nd := nd) (nb := nb) (rk := rk) hp h8 hn
  have hl : lay (kX np nd nb no rk) T R (64 + 16 * p + 2) = some (.inl (.object "java/lang/Object", 10, .inr (.inr (.inr (.inr (R (64 + 16 * p + 2))))))) := by
    rw [lx_c18 (by rw [e])]
    rw [e]
  rw [jaSR_of hl (lx_c8 (by rw [kX_ord hp h8 hk h3])) h (by omega) (by omega), lx_setR _ T R (64 + 16 * p + 2) (va_up (R (64 + 16 * p + 2)) j (some (64 + 16 * p + 3 + k))) (by rw [e]; rfl), ru_eq]
theorem yl_p1 {p : Nat} (h : p < np) (h8 : np ≤ 8) (b : Nat) : jpF (lay (kX np nd nb no rk) T R) (64 + 16 * p + 1) 5 1 (.ref b) = some (lay (kX np nd nb no rk) T (ru R (64 + 16 * p + 1) 1 (some b))) := lx_p5_1 (by rw [kX_list h h8]) (by omega) b
theorem yp_p4 {p : Nat} (h : p < np) (h8 : np ≤ 8) (b : Nat) : jpF (lay (kX np nd nb no rk) T R) (64 + 16 * p) 4 4 (.ref b) = some (lay (kX np nd nb no rk) T (ru R (64 + 16 * p) 4 (some b))) := lx_p4_4 (by rw [kX_prof h h8]) (by omega) b
theorem yd_p0 {d : Nat} (h : d < nd) (h12 : nd ≤ 12) (b : Nat) : jpF (lay (kX np nd nb no rk) T R) (200 + d) 6 0 (.ref b) = some (lay (kX np nd nb no rk) T (ru R (200 + d) 0 (some b))) := lx_p6_0 (by rw [kX_die h h12]) (by omega) b
theorem yb_p0 {i : Nat} (h : i < nb) (b : Nat) : jpF (lay (kX np nd nb no rk) T R) (1000 + i) 7 0 (.ref b) = some (lay (kX np nd nb no rk) T (ru R (1000 + i) 0 (some b))) := lx_p7_0 (by rw [kX_bar h]) (by omega) b
theorem y_p11 (b : Nat) : jpF (lay (kX np nd nb no rk) T R) 8 0 11 (.ref b) = some (lay (kX np nd nb no rk) T (ru R 8 11 (some b))) := lx_p0_11 rfl (by decide) b
theorem y2_f : jaF (lay (kX np nd nb no rk) T R) 2 = some (.object "java/lang/Object", 0, .inr (.inr (.inr (.inr (R 2))))) := by
  unfold jaF
  rw [lx_c18 rfl]
  rfl
theorem y2_l : jalen (lay (kX np nd nb no rk) T R) 2 = some 0 := lx_l18 rfl
-- the same getters with any references
theorem yr_g0 : jgA (lay (kX np nd nb no rk) T R) 8 0 0 = R 8 0 := lx_g0_0 rfl
theorem yr_g2 : jgA (lay (kX np nd nb no rk) T R) 8 0 2 = R 8 2 := lx_g0_2 rfl
theorem yr_g5 : jgA (lay (kX np nd nb no rk) T R) 8 0 5 = R 8 5 := lx_g0_5 rfl
theorem yr_g8 : jgA (lay (kX np nd nb no rk) T R) 8 0 8 = R 8 8 := lx_g0_8 rfl
theorem yr_g9 : jgA (lay (kX np nd nb no rk) T R) 8 0 9 = R 8 9 := lx_g0_9 rfl
theorem yr_9 (j : Nat) (h : j < 8) : jaA (lay (kX np nd nb no rk) T R) 9 (Int32.ofNat j) = R 9 j := lx_an14 rfl j h (by omega)
theorem yr_d0 {d : Nat} (h : d < nd) (h12 : nd ≤ 12) : jgA (lay (kX np nd nb no rk) T R) (200 + d) 6 0 = R (200 + d) 0 := lx_g6_0 (by rw [kX_die h h12])
theorem yr_l1 {p : Nat} (h : p < np) (h8 : np ≤ 8) : jgA (lay (kX np nd nb no rk) T R) (64 + 16 * p + 1) 5 1 = R (64 + 16 * p + 1) 1 := lx_g5_1 (by rw [kX_list h h8])
-- kinds
theorem kX_newdie (h : nd < 12) : va_up (kX np nd nb no rk) (200 + nd) (7, 0) = kX np (nd + 1) nb no rk := by
  funext n
  unfold va_up kX
  by_cases e : n = 200 + nd
  · rw [if_pos e, if_neg (by omega), if_neg (by omega), if_neg (by omega), if_pos (by omega), if_pos (by omega)]
  · rw [if_neg e]
    by_cases e1 : n < 200 + nd
    · simp only [e1, show n < 200 + (nd + 1) by omega]
    · simp only [e1, show ¬ n < 200 + (nd + 1) by omega]
theorem kX_newbar : va_up (kX np nd nb no rk) (1000 + nb) (8, 0) = kX np nd (nb + 1) no rk := by
  funext n
  unfold va_up kX
  by_cases e : n = 1000 + nb
  · rw [if_pos e, if_neg (by omega), if_neg (by omega), if_neg (by omega), if_neg (by omega), if_pos (by omega)]
  · rw [if_neg e]
    by_cases e1 : n < 1000 + nb
    · simp only [e1, show n < 1000 + (nb + 1) by omega]
    · simp only [e1, show ¬ n < 1000 + (nb + 1) by omega]
theorem kX_newprof (h : np < 8) : va_up (va_up (kX np nd nb no rk) (64 + 16 * np) (5, 0)) (64 + 16 * np + 1) (6, 0) = kX (np + 1) nd nb (va_up no np 0) rk := by
  funext n
  by_cases e1 : n = 64 + 16 * np + 1
  · rw [e1, vu_at, kX_list (by omega) (by omega)]
  · rw [vu_ne _ _ e1]
    by_cases e2 : n = 64 + 16 * np
    · rw [e2, vu_at, kX_prof (by omega) (by omega)]
    · rw [vu_ne _ _ e2]
      unfold kX
      by_cases c1 : n < 64
      · rw [if_pos c1, if_pos c1]
      · rw [if_neg c1, if_neg c1]
        by_cases c2 : n < 192
        · rw [if_pos c2, if_pos c2]
          unfold kpro
          by_cases c3 : (n - 64) / 16 < np
          · rw [if_pos c3, if_pos (show (n - 64) / 16 < np + 1 by omega), vu_ne no _ (show (n - 64) / 16 ≠ np by omega)]
          · rw [if_neg c3]
            by_cases c4 : (n - 64) / 16 = np
            · rw [c4, if_pos (show np < np + 1 by omega), if_neg (show ¬ (n - 64) % 16 = 0 by omega), if_neg (show ¬ (n - 64) % 16 = 1 by omega), vu_at, if_pos rfl]
              by_cases c5 : (n - 64) % 16 = 2
              · rw [if_pos c5]
              · rw [if_neg c5, if_neg (by omega)]
            · rw [if_neg (by omega)]
        · rw [if_neg c2, if_neg c2]
theorem kX_neword {p : Nat} (hp : p < np) (h8 : np ≤ 8) (hn : no p ≠ 0) (h3 : no p < 3) : va_up (kX np nd nb no rk) (64 + 16 * p + 3 + no p) (9, 0) = kX np nd nb (va_up no p (no p + 1)) rk := by
  funext n
  by_cases e1 : n = 64 + 16 * p + 3 + no p
  · have := kX_ord (nd := nd) (nb := nb) (rk := rk) (no := va_up no p (no p + 1)) (k := no p) hp h8 (by rw [vu_at]; omega) (by rw [vu_at]; omega)
    rw [e1, vu_at, this]
  · rw [vu_ne _ _ e1]
    unfold kX
    by_cases c1 : n < 64
    · rw [if_pos c1, if_pos c1]
    · rw [if_neg c1, if_neg c1]
      by_cases c2 : n < 192
      · rw [if_pos c2, if_pos c2]
        unfold kpro
        by_cases c4 : (n - 64) / 16 = p
        · rw [c4, vu_at, if_neg hn, if_neg (show ¬ no p + 1 = 0 by omega)]
          by_cases c6 : (n - 64) % 16 < 3 + no p
          · simp only [if_pos c6, if_pos (show (n - 64) % 16 < 3 + (no p + 1) by omega)]
          · simp only [if_neg c6, if_neg (show ¬ (n - 64) % 16 < 3 + (no p + 1) by omega)]
        · rw [vu_ne no _ c4]
      · rw [if_neg c2, if_neg c2]
theorem kX_neword0 {p : Nat} (hp : p < np) (h8 : np ≤ 8) (hn : no p = 0) : va_up (va_up (kX np nd nb no rk) (64 + 16 * p + 3) (9, 0)) (64 + 16 * p + 2) (18, 10) = kX np nd nb (va_up no p 1) rk := by
  funext n
  by_cases e0 : n = 64 + 16 * p + 2
  · have := kX_elem (nd := nd) (nb := nb) (rk := rk) (no := va_up no p 1) hp h8 (by rw [vu_at]; omega)
    rw [e0, vu_at, this]
  · rw [vu_ne _ _ e0]
    by_cases e1 : n = 64 + 16 * p + 3
    · have := kX_ord (nd := nd) (nb := nb) (rk := rk) (no := va_up no p 1) (k := 0) hp h8 (by rw [vu_at]; omega) (by rw [vu_at]; omega)
      rw [e1, vu_at]
      exact this.symm
    · rw [vu_ne _ _ e1]
      unfold kX
      by_cases c1 : n < 64
      · rw [if_pos c1, if_pos c1]
      · rw [if_neg c1, if_neg c1]
        by_cases c2 : n < 192
        · rw [if_pos c2, if_pos c2]
          unfold kpro
          by_cases c4 : (n - 64) / 16 = p
          · have a1 : ¬ (n - 64) % 16 = 2 := by omega
            rw [c4, vu_at, if_neg a1, if_neg a1, hn]
            by_cases c6 : (n - 64) % 16 < 3
            · simp only [if_pos (show (n - 64) % 16 < 3 + 0 by omega), if_pos (show (n - 64) % 16 < 3 + 1 by omega)]
            · simp only [if_neg (show ¬ (n - 64) % 16 < 3 + 0 by omega), if_neg (show ¬ (n - 64) % 16 < 3 + 1 by omega)]
          · rw [vu_ne no _ c4]
        · rw [if_neg c2, if_neg c2]
-- references
theorem ru_at (R : Nat → Nat → Option Nat) (a k : Nat) (v : Option Nat) : ru R a k v a k = v := by simp [ru]
theorem ru_ne (R : Nat → Nat → Option Nat) {a k n j : Nat} (v : Option Nat) (h : ¬ (n = a ∧ j = k)) : ru R a k v n j = R n j := by unfold ru; rw [if_neg h]
theorem rfix_np {np' : Nat} {n k : Nat} (h : n ≠ 9) : rfix np nd nb ld rw n k = rfix np' nd nb ld rw n k := by
  unfold rfix
  split <;> first | rfl | omega
theorem rfix_nd {nd' : Nat} {n k : Nat} (h : n ≠ 10) : rfix np nd nb ld rw n k = rfix np nd' nb ld rw n k := by
  unfold rfix
  split <;> first | rfl | omega
theorem rfix_nb {nb' : Nat} {ld' : Option Nat} {n k : Nat} (h : n ≠ 15) (h2 : ¬ (n = 8 ∧ k = 11)) : rfix np nd nb ld rw n k = rfix np nd nb' ld' rw n k := by
  unfold rfix
  split <;> first | rfl | omega | skip
  unfold r8
  split <;> first | rfl | omega
theorem rX_newdie {p : Nat} (h : nd < 12) : ru (ru (va_up (rX np nd nb no dp bd ld rw) (200 + nd) (fun _ => none)) (200 + nd) 0 (some (64 + 16 * p))) 10 nd (some (200 + nd)) = rX np (nd + 1) nb no (va_up dp nd p) bd ld rw := by
  funext n k
  by_cases a1 : n = 10
  · subst a1
    by_cases a2 : k = nd
    · subst a2
      rw [ru_at]
      exact (rX_10 (by omega)).symm
    · rw [ru_ne _ _ (by omega), ru_ne _ _ (by omega), vu_ne _ _ (by omega)]
      show (if k < nd then some (200 + k) else none) = if k < nd + 1 then some (200 + k) else none
      by_cases a3 : k < nd
      · rw [if_pos a3, if_pos (by omega)]
      · rw [if_neg a3, if_neg (by omega)]
  · rw [ru_ne _ _ (by omega)]
    by_cases a2 : n = 200 + nd
    · subst a2
      by_cases a3 : k = 0
      · subst a3
        rw [ru_at, rX_die (by omega) (by omega), vu_at]
      · rw [ru_ne _ _ (by omega), vu_at]
        unfold rX
        rw [if_neg (by omega), if_neg (by omega), if_neg (by omega), if_pos (by omega), if_neg (by omega)]
    · rw [ru_ne _ _ (by omega), vu_ne _ _ a2]
      unfold rX
      by_cases c1 : n < 64
      · rw [if_pos c1, if_pos c1]
        exact rfix_nd a1
      · rw [if_neg c1, if_neg c1]
        by_cases c2 : n < 192
        · rw [if_pos c2, if_pos c2]
        · rw [if_neg c2, if_neg c2]
          by_cases c3 : n < 200
          · rw [if_pos c3, if_pos c3]
          · rw [if_neg c3, if_neg c3]
            by_cases c4 : n < 1000
            · rw [if_pos c4, if_pos c4]
              by_cases c5 : k = 0 ∧ n < 200 + nd
              · rw [if_pos c5, if_pos (by omega), vu_ne _ _ (by omega)]
              · rw [if_neg c5, if_neg (by omega)]
            · rw [if_neg c4, if_neg c4]
theorem rX_newprof (h : np < 8) : ru (ru (ru (va_up (va_up (rX np nd nb no dp bd ld rw) (64 + 16 * np) (fun _ => none)) (64 + 16 * np + 1) (fun _ => none)) (64 + 16 * np + 1) 1 (some 2)) (64 + 16 * np) 4 (some (64 + 16 * np + 1))) 9 np (some (64 + 16 * np)) = rX (np + 1) nd nb (va_up no np 0) dp bd ld rw := by
  funext n k
  by_cases a1 : n = 9
  · subst a1
    by_cases a2 : k = np
    · subst a2
      rw [ru_at]
      exact (rX_9 (by omega)).symm
    · rw [ru_ne _ _ (by omega), ru_ne _ _ (by omega), ru_ne _ _ (by omega), vu_ne _ _ (by omega), vu_ne _ _ (by omega)]
      show (if k < np then some (64 + 16 * k) else none) = if k < np + 1 then some (64 + 16 * k) else none
      by_cases a3 : k < np
      · rw [if_pos a3, if_pos (by omega)]
      · rw [if_neg a3, if_neg (by omega)]
  · rw [ru_ne _ _ (by omega)]
    by_cases a2 : n = 64 + 16 * np
    · subst a2
      by_cases a3 : k = 4
      · subst a3
        rw [ru_at, rX_prof (by omega) (by omega)]
      · have e : (64 + 16 * np - 64) / 16 = np := by omega
        rw [ru_ne _ _ (by omega), ru_ne _ _ (by omega), vu_ne _ _ (by omega), vu_at]
        unfold rX rpro
        rw [e, if_neg (by omega), if_pos (by omega), if_pos (by omega), if_pos (by omega), if_neg a3]
    · rw [ru_ne _ _ (by omega)]
      by_cases a4 : n = 64 + 16 * np + 1
      · subst a4
        by_cases a3 : k = 1
        · subst a3
          rw [ru_at, rX_list0 (by omega) (by omega) (vu_at _ _ _)]
        · have e : (64 + 16 * np + 1 - 64) / 16 = np := by omega
          rw [ru_ne _ _ (by omega), vu_at]
          unfold rX rpro
          rw [e, if_neg (by omega), if_pos (by omega), if_pos (by omega), if_neg (by omega), if_pos (by omega), if_neg a3]
      · rw [ru_ne _ _ (by omega), vu_ne _ _ a4, vu_ne _ _ a2]
        unfold rX
        by_cases c1 : n < 64
        · rw [if_pos c1, if_pos c1]
          exact rfix_np a1
        · rw [if_neg c1, if_neg c1]
          by_cases c2 : n < 192
          · rw [if_pos c2, if_pos c2]
            unfold rpro
            by_cases c3 : (n - 64) / 16 < np
            · rw [if_pos c3, if_pos (show (n - 64) / 16 < np + 1 by omega), vu_ne no _ (show (n - 64) / 16 ≠ np by omega)]
            · rw [if_neg c3]
              by_cases c4 : (n - 64) / 16 = np
              · rw [c4, if_pos (show np < np + 1 by omega), if_neg (show ¬ (n - 64) % 16 = 0 by omega), if_neg (show ¬ (n - 64) % 16 = 1 by omega), vu_at, if_neg (show ¬ k < 0 by omega), ite_self]
              · rw [if_neg (by omega)]
          · rw [if_neg c2, if_neg c2]
theorem rX_bar1 {d i : Nat} : ru (va_up (rX np nd nb no dp bd ld rw) (1000 + i) (fun _ => none)) (1000 + i) 0 (some (200 + d)) = rX np nd nb no dp (va_up bd i d) ld rw := by
  funext n k
  by_cases a2 : n = 1000 + i
  · subst a2
    by_cases a3 : k = 0
    · subst a3
      rw [ru_at, rX_bar, vu_at]
    · rw [ru_ne _ _ (by omega), vu_at]
      unfold rX
      rw [if_neg (by omega), if_neg (by omega), if_neg (by omega), if_neg (by omega), if_neg a3]
  · rw [ru_ne _ _ (by omega), vu_ne _ _ a2]
    unfold rX
    by_cases c1 : n < 64
    · rw [if_pos c1, if_pos c1]
    · rw [if_neg c1, if_neg c1]
      by_cases c2 : n < 192
      · rw [if_pos c2, if_pos c2]
      · rw [if_neg c2, if_neg c2]
        by_cases c3 : n < 200
        · rw [if_pos c3, if_pos c3]
        · rw [if_neg c3, if_neg c3]
          by_cases c4 : n < 1000
          · rw [if_pos c4, if_pos c4]
          · rw [if_neg c4, if_neg c4, vu_ne bd _ (show n - 1000 ≠ i by omega)]
theorem rX_bar2 {a : Option Nat} : ru (ru (rX np nd nb no dp bd ld rw) 15 nb (some (1000 + nb))) 8 11 a = rX np nd (nb + 1) no dp bd a rw := by
  funext n k
  by_cases a0 : n = 8 ∧ k = 11
  · obtain ⟨rfl, rfl⟩ := a0
    rw [ru_at]
    rfl
  · rw [ru_ne _ _ a0]
    by_cases a1 : n = 15
    · subst a1
      by_cases a2 : k = nb
      · subst a2
        rw [ru_at]
        exact (rX_15 (by omega)).symm
      · rw [ru_ne _ _ (by omega)]
        show (if k < nb then some (1000 + k) else none) = if k < nb + 1 then some (1000 + k) else none
        by_cases a3 : k < nb
        · rw [if_pos a3, if_pos (by omega)]
        · rw [if_neg a3, if_neg (by omega)]
    · rw [ru_ne _ _ (by omega)]
      unfold rX
      by_cases c1 : n < 64
      · rw [if_pos c1, if_pos c1]
        exact rfix_nb a1 a0
      · rw [if_neg c1, if_neg c1]
theorem rX_neword {p : Nat} (hp : p < np) (h8 : np ≤ 8) (hn : no p ≠ 0) (h3 : no p < 3) : ru (va_up (rX np nd nb no dp bd ld rw) (64 + 16 * p + 3 + no p) (fun _ => none)) (64 + 16 * p + 2) (no p) (some (64 + 16 * p + 3 + no p)) = rX np nd nb (va_up no p (no p + 1)) dp bd ld rw := by
  funext n k
  by_cases a0 : n = 64 + 16 * p + 2 ∧ k = no p
  · obtain ⟨rfl, rfl⟩ := a0
    rw [ru_at, rX_elem hp h8 (by rw [vu_at]; omega)]
  · rw [ru_ne _ _ a0]
    by_cases a1 : n = 64 + 16 * p + 3 + no p
    · have e : (64 + 16 * p + 3 + no p - 64) / 16 = p := by omega
      subst a1
      rw [vu_at]
      unfold rX rpro
      rw [e, if_neg (by omega), if_pos (by omega), if_pos hp, if_neg (by omega), if_neg (by omega), if_neg (by omega)]
    · rw [vu_ne _ _ a1]
      unfold rX
      by_cases c1 : n < 64
      · rw [if_pos c1, if_pos c1]
      · rw [if_neg c1, if_neg c1]
        by_cases c2 : n < 192
        · rw [if_pos c2, if_pos c2]
          unfold rpro
          by_cases c4 : (n - 64) / 16 = p
          · rw [c4, vu_at, if_neg hn, if_neg (show ¬ no p + 1 = 0 by omega)]
            by_cases c5 : (n - 64) % 16 = 2
            · have : k ≠ no p := by omega
              simp only [c5]
              by_cases c6 : k < no p
              · simp only [if_pos c6, if_pos (show k < no p + 1 by omega)]
              · simp only [if_neg c6, if_neg (show ¬ k < no p + 1 by omega)]
            · simp only [c5, if_false]
          · rw [vu_ne no _ c4]
        · rw [if_neg c2, if_neg c2]
theorem rX_neword0 {p : Nat} (hp : p < np) (h8 : np ≤ 8) (hn : no p = 0) : ru (ru (va_up (va_up (rX np nd nb no dp bd ld rw) (64 + 16 * p + 3) (fun _ => none)) (64 + 16 * p + 2) (fun _ => none)) (64 + 16 * p + 1) 1 (some (64 + 16 * p + 2))) (64 + 16 * p + 2) 0 (some (64 + 16 * p + 3)) = rX np nd nb (va_up no p 1) dp bd ld rw := by
  funext n k
  by_cases a0 : n = 64 + 16 * p + 2 ∧ k = 0
  · obtain ⟨rfl, rfl⟩ := a0
    rw [ru_at, rX_elem hp h8 (by rw [vu_at]; omega)]
  · rw [ru_ne _ _ a0]
    by_cases b0 : n = 64 + 16 * p + 1 ∧ k = 1
    · obtain ⟨rfl, rfl⟩ := b0
      rw [ru_at, rX_list hp h8 (by rw [vu_at]; omega)]
    · rw [ru_ne _ _ b0]
      by_cases b1 : n = 64 + 16 * p + 2
      · have e : (64 + 16 * p + 2 - 64) / 16 = p := by omega
        subst b1
        rw [vu_at]
        unfold rX rpro
        rw [e, if_neg (by omega), if_pos (by omega), if_pos hp, if_neg (by omega), if_neg (by omega), if_pos (by omega), vu_at, if_neg (by omega)]
      · rw [vu_ne _ _ b1]
        by_cases a1 : n = 64 + 16 * p + 3
        · have e : (64 + 16 * p + 3 - 64) / 16 = p := by omega
          subst a1
          rw [vu_at]
          unfold rX rpro
          rw [e, if_neg (by omega), if_pos (by omega), if_pos hp, if_neg (by omega), if_neg (by omega), if_neg (by omega)]
        · rw [vu_ne _ _ a1]
          unfold rX
          by_cases c1 : n < 64
          · rw [if_pos c1, if_pos c1]
          · rw [if_neg c1, if_neg c1]
            by_cases c2 : n < 192
            · rw [if_pos c2, if_pos c2]
              unfold rpro
              by_cases c4 : (n - 64) / 16 = p
              · rw [c4, vu_at, hn, if_pos rfl, if_neg (show ¬ 1 = 0 by omega)]
                by_cases c5 : (n - 64) % 16 = 1
                · have : k ≠ 1 := by omega
                  simp only [c5, if_neg this, if_true]
                · simp only [c5, if_false, if_neg (show ¬ (n - 64) % 16 = 2 by omega)]
              · rw [vu_ne no _ c4]
            · rw [if_neg c2, if_neg c2]
end NW
