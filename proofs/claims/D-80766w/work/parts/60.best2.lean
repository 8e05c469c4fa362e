/-! the best billet -/
set_option maxRecDepth 100000
/-- what the loop of best looks at -/
def BT (no : Nat → Nat) (p ns : Nat) (T A : Nat → Nat → Int32) : Prop := PT no p T A ∧ (∀ k, k < 6 → T 11 k = A 1 k) ∧ T (64 + 16 * p) 1 = A 3 p ∧ T 8 16 = Int32.ofNat ns ∧ (∀ k, k < ns → T 17 k = A 24 k) ∧ T 12 2 = 1 ∧ T 13 2 = 2
theorem BT_to {no : Nat → Nat} {p ns : Nat} {T T' A : Nat → Nat → Int32} (h : BT no p ns T A) (h8 : p < 8) (hT : ∀ n j, ¬ (n = 14 ∨ n = 16 ∨ (n = 8 ∧ j = 14)) → T' n j = T n j) : BT no p ns T' A := by
  obtain ⟨⟨h1, h2, h3, h4, h5, h6⟩, b2, b3, b4, b5, b6, b7⟩ := h
  refine ⟨⟨h1, by rw [hT _ _ (by omega)]; exact h2, h3, fun k hk => ?_, by rw [hT _ _ (by omega)]; exact h5, h6⟩, fun k hk => by rw [hT _ _ (by omega)]; exact b2 k hk, by rw [hT _ _ (by omega)]; exact b3, by rw [hT _ _ (by omega)]; exact b4, fun k hk => by rw [hT _ _ (by omega)]; exact b5 k hk, by rw [hT _ _ (by omega)]; exact b6, by rw [hT _ _ (by omega)]; exact b7⟩
  rw [hT _ _ (by omega), hT _ _ (by omega)]
  exact h4 k hk
theorem mul64 {a b : Int32} (hb : -2000 ≤ b.toInt ∧ b.toInt ≤ 2000) : (a.toInt64 * b.toInt64).toInt = a.toInt * b.toInt ∧ -5000000000000 ≤ a.toInt * b.toInt ∧ a.toInt * b.toInt ≤ 5000000000000 := by
  have h1 := a.toInt_lt
  have h2 := a.le_toInt
  have h3 : -5000000000000 ≤ a.toInt * b.toInt ∧ a.toInt * b.toInt ≤ 5000000000000 := by
    have n1 : (a.toInt * b.toInt).natAbs ≤ 2147483648 * 2000 := by
      rw [Int.natAbs_mul]
      exact Nat.mul_le_mul (by omega) (by omega)
    omega
  refine ⟨?_, h3⟩
  rw [Int64.toInt_mul, Int32.toInt_toInt64, Int32.toInt_toInt64]
  exact Int.bmod_eq_of_le (by omega) (by omega)
section B2
variable {c c' np nd nb na ns nj : Nat} {no dp bd jp : Nat → Nat} {ld : Option Nat} {rw : Nat → Option Nat} {rk : Nat → Nat × Nat} {T T' A A' : Nat → Nat → Int32} {F F' GF : Nat → Int32} {L : Nat → Int64} {GA : Nat → Nat → Int32}
theorem best_L {p d : Nat} (hp : p < np) (h8 : np ≤ 8) (hd : d < 12) (hdp : A 6 d = Int32.ofNat p) (hL : LW A) (hr : 5 ≤ (A 3 p).toInt ∧ (A 3 p).toInt ≤ 80) (hF : F 35 = Int32.ofNat ns) (hs6 : ns ≤ 6) (hst : ∀ k, k < ns → 200 ≤ (A 24 k).toInt ∧ (A 24 k).toInt ≤ 1200) {w : Int32} (hw : w = 0 ∨ w = 1) : ∀ (m k N : Nat) (b mo : Int32) (T : Nat → Nat → Int32) (GF : Nat → Int32) (GA : Nat → Nat → Int32), BT no p ns T A → k + m = ns → m < N → (b = -1 ∨ (200 ≤ b.toInt ∧ b.toInt ≤ 1200)) → 0 ≤ mo.toInt → ∃ (r : Int32) (T' : Nat → Nat → Int32) (GF' : Nat → Int32) (GA' : Nat → Nat → Int32), f_X0_best_L30 N 8 w (64 + 16 * p) b mo (Int32.ofNat k) (lay (kX np nd nb no rk) T (rX np nd nb no dp bd ld rw)) = some (r, lay (kX np nd nb no rk) T' (rX np nd nb no dp bd ld rw)) ∧ f_X5_best_L19 N 8 (Int32.ofNat d) w b mo (Int32.ofNat k) (layM F A L GF GA) = some (r, layM F A L GF' GA') ∧ (∀ n j, ¬ ((n = 14 ∧ j = 2) ∨ n = 16 ∨ (n = 8 ∧ j = 14)) → T' n j = T n j)
  | m, k, 0, _, _, _, _, _, _, _, h, _, _ => absurd h (Nat.not_lt_zero m)
  | 0, k, N + 1, b, mo, T, GF, GA, hB, e, _, _, _ => by
    obtain ⟨b1, b2, b3, b4, b5, b6, b7⟩ := id hB
    have hk : ns ≤ k := by omega
    unfold f_X0_best_L30 f_X5_best_L19
    simp -implicitDefEqProofs (maxSteps := 2000000) (disch := omega) only [lm_is, lm_g0, lm_g1, lm_g2, lm_g3, lm_g4, lm_g5, lm_g6, lm_g7, lm_g8, lm_g9, lm_g10, lm_g11, lm_g12, lm_g13, lm_g14, lm_g15, lm_g16, lm_g17, lm_g18, lm_g19, lm_g20, lm_g21, lm_g22, lm_g23, lm_g24, lm_g25, lm_g26, lm_g27, lm_g28, lm_g29, lm_g30, lm_g31, lm_g32, lm_g33, lm_g34, lm_g35, lm_g36, lm_g37, lm_g38, lm_g39, lm_g40, lm_g41, lm_g42, lm_g43, lm_g44, lm_g45, lm_g46, lm_g47, lm_g48, lm_g49, lm_g50, lm_g51, lm_p1, lm_p6, lm_p12, lm_p13, lm_p22, lm_p23, lm_p29, lm_p30, lm_p31, lm_p32, lm_p33, lm_p34, lm_p35, lm_p37, lm_p41, lm_p44, lm_p45, lm_p51, y_is, y_g0, y_g1, y_p1, y_g2, y_g3, y_p3, y_g4, y_p4, y_g5, y_g6, y_g7, y_g8, y_g9, y_g10, y_p10, y_g12, y_p12, y_g13, y_g14, y_p14, y_g15, y_g16, y_p16, y_g17, y_g18, y_p18, y_g19, y_p19, y_g20, y_g21, y_g22, y_p22, y_g23, y_p23, y_g24, y_p24, y_g25, y_p25, y_g26, y_g27, y_p27, y_g11, y_r11, y12_is, y12_g0, y12_p0, y12_g1, y12_g2, y12_p2, y12_g3, y13_is, y13_g0, y13_p0, y13_g1, y13_g2, y13_p2, y13_g3, y14_is, y14_g0, y14_p0, y14_g1, y14_g2, y14_p2, y14_g3, y1_i, y1_i0, y1_i1, y1_i2, y1_i3, y1_i4, y1_i5, y11_i, y11_i0, y11_i1, y11_i2, y11_i3, y11_i4, y11_i5, y11_s, y11_s0, y11_s1, y11_s2, y11_s3, y11_s4, y11_s5, y16_i, y16_i0, y16_i1, y16_i2, y16_s, y16_s0, y16_s1, y16_s2, y17_i, y17_i0, y17_i1, y17_i2, y17_i3, y17_i4, y17_i5, y17_s, y17_s0, y17_s1, y17_s2, y17_s3, y17_s4, y17_s5, y19_i, y19_i0, y19_i1, y19_i2, y19_i3, y19_i4, y19_i5, y19_i6, y19_s, y19_s0, y19_s1, y19_s2, y19_s3, y19_s4, y19_s5, y19_s6, y20_i, y20_i0, y20_i1, y20_i2, y20_i3, y20_i4, y20_i5, y20_i6, y20_s, y20_s0, y20_s1, y20_s2, y20_s3, y20_s4, y20_s5, y20_s6, y9_a, y10_a, y15_a, y18_a, y21_a, yp_is, yp_g0, yp_p0, yp_g1, yp_p1, yp_g2, yp_p2, yp_g3, yp_p3, yp_g4, yl_is, yl_g0, yl_p0, yl_g2, yl_p2, yl_e, yl_e0, ye_a, yo_is, yo_g0, yo_p0, yo_g1, yo_p1, yd_is, yd_g0, yd_g1, yd_p1, yd_g2, yd_p2, yd_g3, yd_p3, yd_g4, yd_p4, yd_g5, yd_p5, yd_g6, yd_p6, yb_is, yb_g0, yb_g1, yb_p1, yb_g2, yb_p2, yb_g3, yb_p3, yb_g4, yb_p4, yb_g5, yb_p5, yb_g6, yb_p6, yb_g7, yb_p7, ys_is, ys_g0, ys_p0, ys_r, ys_a, yj_i, yj_i0, yj_s0, yj_i1, yj_s1, yj_i2, yj_s2, lm_n1, lm_sn1, lm_n1_0, lm_sn1_0, lm_n1_1, lm_sn1_1, lm_n1_2, lm_sn1_2, lm_n1_3, lm_sn1_3, lm_n1_4, lm_sn1_4, lm_n1_5, lm_sn1_5, lm_n2, lm_sn2, lm_n3, lm_sn3, lm_n4, lm_sn4, lm_n5, lm_sn5, lm_n6, lm_sn6, lm_n7, lm_sn7, lm_n8, lm_sn8, lm_n9, lm_sn9, lm_n10, lm_sn10, lm_n11, lm_sn11, lm_n12, lm_sn12, lm_n13, lm_sn13, lm_n14, lm_sn14, lm_n15, lm_sn15, lm_n16, lm_sn16, lm_n17, lm_sn17, lm_n18, lm_sn18, lm_n19, lm_n19_0, lm_sn19_0, lm_n19_1, lm_sn19_1, lm_n19_2, lm_sn19_2, lm_n19_3, lm_sn19_3, lm_n19_4, lm_sn19_4, lm_n19_5, lm_sn19_5, lm_n19_6, lm_sn19_6, lm_n20, lm_sn20, lm_n21, lm_sn21, lm_n22, lm_sn22, lm_n23, lm_sn23, lm_n23_0, lm_sn23_0, lm_n23_1, lm_sn23_1, lm_n23_2, lm_sn23_2, lm_n24, lm_sn24, lm_n24_0, lm_sn24_0, lm_n24_1, lm_sn24_1, lm_n24_2, lm_sn24_2, lm_n24_3, lm_sn24_3, lm_n24_4, lm_sn24_4, lm_n24_5, lm_sn24_5, lm_n25, lm_sn25, lm_n25_0, lm_sn25_0, lm_n25_1, lm_sn25_1, lm_n25_2, lm_sn25_2, lm_n25_3, lm_sn25_3, lm_n25_4, lm_sn25_4, lm_n25_5, lm_sn25_5, lm_n25_6, lm_sn25_6, lm_n26, lm_sn26, lm_n26_0, lm_sn26_0, lm_n26_1, lm_sn26_1, lm_n26_2, lm_sn26_2, lm_n26_3, lm_sn26_3, lm_n26_4, lm_sn26_4, lm_n26_5, lm_sn26_5, lm_n26_6, lm_sn26_6, lm_n27, lm_sn27, lm_n27_0, lm_sn27_0, lm_n27_1, lm_sn27_1, lm_n27_2, lm_sn27_2, lm_n27_3, lm_sn27_3, lm_n27_4, lm_sn27_4, lm_n27_5, lm_sn27_5, lm_n27_6, lm_sn27_6, lm_n28, lm_sn28, lm_n28_0, lm_sn28_0, lm_n28_1, lm_sn28_1, lm_n28_2, lm_sn28_2, lm_n28_3, lm_sn28_3, lm_n28_4, lm_sn28_4, lm_n28_5, lm_sn28_5, lm_n28_6, lm_sn28_6, lm_n29, lm_sn29, lm_n29_0, lm_sn29_0, lm_n29_1, lm_sn29_1, lm_n29_2, lm_sn29_2, lm_n29_3, lm_sn29_3, lm_n29_4, lm_sn29_4, lm_n29_5, lm_sn29_5, lm_n29_6, lm_sn29_6, lm_n30, lm_sn30, lm_n31, lm_sn31, lm_n31_0, lm_sn31_0, lm_n31_1, lm_sn31_1, lm_n31_2, lm_sn31_2, lm_n31_3, lm_sn31_3, lm_n32, lm_sn32, lm_n32_0, lm_sn32_0, lm_n32_1, lm_sn32_1, lm_n32_2, lm_sn32_2, lm_n32_3, lm_sn32_3, lm_n33, lm_sn33, lm_n34, lm_sn34, tu_at, tu_ne, tu_nk, vu_at, vu_ne, jb_some, Option.bind_some, Option.bind_none, one0, if_true, if_false, b4, hF, on_le, hk]
    exact ⟨_, T, GF, GA, rfl, rfl, fun _ _ _ => rfl⟩
  | m + 1, k, N + 1, b, mo, T, GF, GA, hB, e, hN, hb, hmo => by
    obtain ⟨b1, b2, b3, b4, b5, b6, b7⟩ := id hB
    have hk' : k < ns := by omega
    have hk : ¬ ns ≤ k := by omega
    have hs := hst k hk'
    obtain ⟨v1, v2, v3, v4, v5, v6⟩ := bv_t hL hr hs
    have ut := us_t (w := w) hL ⟨v3, v4⟩
    have x1 := barOf_eq (nd := nd) (nb := nb) (na := nb) (no := no) (dp := dp) (bd := bd) (ld := ld) (rw := rw) (rk := rk) hp h8 (A 24 k) (b2 0 (by decide)) (b2 5 (by decide)) b3
    have x2 := usable_eq (np := np) (nd := nd) (nb := nb) (na := nb) (no := no) (dp := dp) (bd := bd) (ld := ld) (rw := rw) (rk := rk) (bvA A p (A 24 k)) w 0 hw (b2 1 (by decide)) (b2 2 (by decide)) (b2 3 (by decide)) b6 b7
    have ez : ∀ x, onA 0 x = 0 := fun x => rfl
    have e12 : tu T 14 2 w 12 0 = T 12 0 := tu_ne _ _ _ (by decide)
    have e13 : tu T 14 2 w 13 0 = T 13 0 := tu_ne _ _ _ (by decide)
    have e14 : tu T 14 2 w 14 0 = T 14 0 := tu_nk _ _ _ (by decide)
    rw [ez, ez, ez, add_0, add_0, add_0, ← e12, tu_self, ← e13, tu_self, ← e14, tu_self] at x2
    have hB1 : BT no p ns (tu T 14 2 w) A := BT_to hB (by omega) (fun n j h => tu_ne _ _ _ (by omega))
    have f1 := findBar_eq (F := F) (L := L) (GF := GF) (GA := GA) (w := w) (show p < 8 by omega) hL hr hs
    obtain ⟨st, i1, c1, c2⟩ := cuts_eq (nd := nd) (nb := nb) (na := nb) (dp := dp) (bd := bd) (ld := ld) (rw := rw) (rk := rk) (F := F) (L := L) (GF := va_up (va_up (va_up (va_up (va_up GF 30 (bvA A p (A 24 k))) 31 (hdA A (bvA A p (A 24 k)))) 32 (tlA A (bvA A p (A 24 k)))) 33 (wdA A (bvA A p (A 24 k)) w)) 34 (usA A (bvA A p (A 24 k)) w)) (GA := GA) hB1.1 hp h8 (u := usA A (bvA A p (A 24 k)) w) (by omega)
    rw [← f1] at c2
    have hB2 : BT no p ns (cT (tu T 14 2 w) st) A := BT_to hB1 (by omega) (fun n j h => by
      simp only [cT, tu]
      repeat rw [if_neg (by omega)])
    obtain ⟨d1, d2, d3, d4, d5, d6, d7⟩ := id hB2
    have hI := fun b mo h1 h2 => best_L hp h8 hd hdp hL hr hF hs6 hst hw m (k + 1) N b mo (cT (tu T 14 2 w) st) (va_up (va_up (va_up (va_up (va_up (va_up GF 30 (bvA A p (A 24 k))) 31 (hdA A (bvA A p (A 24 k)))) 32 (tlA A (bvA A p (A 24 k)))) 33 (wdA A (bvA A p (A 24 k)) w)) 34 (usA A (bvA A p (A 24 k)) w)) 29 st.1) (gT GA st) hB2 (by omega) (by omega) h1 h2
    have hfr : ∀ T' : Nat → Nat → Int32, (∀ n j, ¬ ((n = 14 ∧ j = 2) ∨ n = 16 ∨ (n = 8 ∧ j = 14)) → T' n j = cT (tu T 14 2 w) st n j) → ∀ n j, ¬ ((n = 14 ∧ j = 2) ∨ n = 16 ∨ (n = 8 ∧ j = 14)) → T' n j = T n j := by
      intro T' h n j hn
      rw [h n j hn]
      simp only [cT, tu]
      repeat rw [if_neg (by omega)]
    have hIs := fun b mo h1 h2 => (hI b mo h1 h2).elim fun r h => h.elim fun T' h => h.elim fun GF' h => h.elim fun GA' h => (⟨r, T', GF', GA', h.1, h.2.1, hfr T' h.2.2⟩ : ∃ (r : Int32) (T' : Nat → Nat → Int32) (GF' : Nat → Int32) (GA' : Nat → Nat → Int32), f_X0_best_L30 N 8 w (64 + 16 * p) b mo (Int32.ofNat (k + 1)) (lay (kX np nd nb no rk) (cT (tu T 14 2 w) st) (rX np nd nb no dp bd ld rw)) = some (r, lay (kX np nd nb no rk) T' (rX np nd nb no dp bd ld rw)) ∧ f_X5_best_L19 N 8 (Int32.ofNat d) w b mo (Int32.ofNat (k + 1)) (layM F A L (va_up (va_up (va_up (va_up (va_up (va_up GF 30 (bvA A p (A 24 k))) 31 (hdA A (bvA A p (A 24 k)))) 32 (tlA A (bvA A p (A 24 k)))) 33 (wdA A (bvA A p (A 24 k)) w)) 34 (usA A (bvA A p (A 24 k)) w)) 29 st.1) (gT GA st)) = some (r, layM F A L GF' GA') ∧ (∀ n j, ¬ ((n = 14 ∧ j = 2) ∨ n = 16 ∨ (n = 8 ∧ j = 14)) → T' n j = T n j))
    clear hI
    unfold f_X0_best_L30 f_X5_best_L19
    unfold f_X0_best_j98 f_X5_best_j70
    unfold f_X0_best_j133 f_X5_best_j93
    unfold f_X5_best_j122 f_X0_best_j148 f_X5_best_j136
    simp -implicitDefEqProofs (maxSteps := 2000000) (disch := omega) only [lm_is, lm_g0, lm_g1, lm_g2, lm_g3, lm_g4, lm_g5, lm_g6, lm_g7, lm_g8, lm_g9, lm_g10, lm_g11, lm_g12, lm_g13, lm_g14, lm_g15, lm_g16, lm_g17, lm_g18, lm_g19, lm_g20, lm_g21, lm_g22, lm_g23, lm_g24, lm_g25, lm_g26, lm_g27, lm_g28, lm_g29, lm_g30, lm_g31, lm_g32, lm_g33, lm_g34, lm_g35, lm_g36, lm_g37, lm_g38, lm_g39, lm_g40, lm_g41, lm_g42, lm_g43, lm_g44, lm_g45, lm_g46, lm_g47, lm_g48, lm_g49, lm_g50, lm_g51, lm_p1, lm_p6, lm_p12, lm_p13, lm_p22, lm_p23, lm_p29, lm_p30, lm_p31, lm_p32, lm_p33, lm_p34, lm_p35, lm_p37, lm_p41, lm_p44, lm_p45, lm_p51, y_is, y_g0, y_g1, y_p1, y_g2, y_g3, y_p3, y_g4, y_p4, y_g5, y_g6, y_g7, y_g8, y_g9, y_g10, y_p10, y_g12, y_p12, y_g13, y_g14, y_p14, y_g15, y_g16, y_p16, y_g17, y_g18, y_p18, y_g19, y_p19, y_g20, y_g21, y_g22, y_p22, y_g23, y_p23, y_g24, y_p24, y_g25, y_p25, y_g26, y_g27, y_p27, y_g11, y_r11, y12_is, y12_g0, y12_p0, y12_g1, y12_g2, y12_p2, y12_g3, y13_is, y13_g0, y13_p0, y13_g1, y13_g2, y13_p2, y13_g3, y14_is, y14_g0, y14_p0, y14_g1, y14_g2, y14_p2, y14_g3, y1_i, y1_i0, y1_i1, y1_i2, y1_i3, y1_i4, y1_i5, y11_i, y11_i0, y11_i1, y11_i2, y11_i3, y11_i4, y11_i5, y11_s, y11_s0, y11_s1, y11_s2, y11_s3, y11_s4, y11_s5, y16_i, y16_i0, y16_i1, y16_i2, y16_s, y16_s0, y16_s1, y16_s2, y17_i, y17_i0, y17_i1, y17_i2, y17_i3, y17_i4, y17_i5, y17_s, y17_s0, y17_s1, y17_s2, y17_s3, y17_s4, y17_s5, y19_i, y19_i0, y19_i1, y19_i2, y19_i3, y19_i4, y19_i5, y19_i6, y19_s, y19_s0, y19_s1, y19_s2, y19_s3, y19_s4, y19_s5, y19_s6, y20_i, y20_i0, y20_i1, y20_i2, y20_i3, y20_i4, y20_i5, y20_i6, y20_s, y20_s0, y20_s1, y20_s2, y20_s3, y20_s4, y20_s5, y20_s6, y9_a, y10_a, y15_a, y18_a, y21_a, yp_is, yp_g0, yp_p0, yp_g1, yp_p1, yp_g2, yp_p2, yp_g3, yp_p3, yp_g4, yl_is, yl_g0, yl_p0, yl_g2, yl_p2, yl_e, yl_e0, ye_a, yo_is, yo_g0, yo_p0, yo_g1, yo_p1, yd_is, yd_g0, yd_g1, yd_p1, yd_g2, yd_p2, yd_g3, yd_p3, yd_g4, yd_p4, yd_g5, yd_p5, yd_g6, yd_p6, yb_is, yb_g0, yb_g1, yb_p1, yb_g2, yb_p2, yb_g3, yb_p3, yb_g4, yb_p4, yb_g5, yb_p5, yb_g6, yb_p6, yb_g7, yb_p7, ys_is, ys_g0, ys_p0, ys_r, ys_a, yj_i, yj_i0, yj_s0, yj_i1, yj_s1, yj_i2, yj_s2, lm_n1, lm_sn1, lm_n1_0, lm_sn1_0, lm_n1_1, lm_sn1_1, lm_n1_2, lm_sn1_2, lm_n1_3, lm_sn1_3, lm_n1_4, lm_sn1_4, lm_n1_5, lm_sn1_5, lm_n2, lm_sn2, lm_n3, lm_sn3, lm_n4, lm_sn4, lm_n5, lm_sn5, lm_n6, lm_sn6, lm_n7, lm_sn7, lm_n8, lm_sn8, lm_n9, lm_sn9, lm_n10, lm_sn10, lm_n11, lm_sn11, lm_n12, lm_sn12, lm_n13, lm_sn13, lm_n14, lm_sn14, lm_n15, lm_sn15, lm_n16, lm_sn16, lm_n17, lm_sn17, lm_n18, lm_sn18, lm_n19, lm_n19_0, lm_sn19_0, lm_n19_1, lm_sn19_1, lm_n19_2, lm_sn19_2, lm_n19_3, lm_sn19_3, lm_n19_4, lm_sn19_4, lm_n19_5, lm_sn19_5, lm_n19_6, lm_sn19_6, lm_n20, lm_sn20, lm_n21, lm_sn21, lm_n22, lm_sn22, lm_n23, lm_sn23, lm_n23_0, lm_sn23_0, lm_n23_1, lm_sn23_1, lm_n23_2, lm_sn23_2, lm_n24, lm_sn24, lm_n24_0, lm_sn24_0, lm_n24_1, lm_sn24_1, lm_n24_2, lm_sn24_2, lm_n24_3, lm_sn24_3, lm_n24_4, lm_sn24_4, lm_n24_5, lm_sn24_5, lm_n25, lm_sn25, lm_n25_0, lm_sn25_0, lm_n25_1, lm_sn25_1, lm_n25_2, lm_sn25_2, lm_n25_3, lm_sn25_3, lm_n25_4, lm_sn25_4, lm_n25_5, lm_sn25_5, lm_n25_6, lm_sn25_6, lm_n26, lm_sn26, lm_n26_0, lm_sn26_0, lm_n26_1, lm_sn26_1, lm_n26_2, lm_sn26_2, lm_n26_3, lm_sn26_3, lm_n26_4, lm_sn26_4, lm_n26_5, lm_sn26_5, lm_n26_6, lm_sn26_6, lm_n27, lm_sn27, lm_n27_0, lm_sn27_0, lm_n27_1, lm_sn27_1, lm_n27_2, lm_sn27_2, lm_n27_3, lm_sn27_3, lm_n27_4, lm_sn27_4, lm_n27_5, lm_sn27_5, lm_n27_6, lm_sn27_6, lm_n28, lm_sn28, lm_n28_0, lm_sn28_0, lm_n28_1, lm_sn28_1, lm_n28_2, lm_sn28_2, lm_n28_3, lm_sn28_3, lm_n28_4, lm_sn28_4, lm_n28_5, lm_sn28_5, lm_n28_6, lm_sn28_6, lm_n29, lm_sn29, lm_n29_0, lm_sn29_0, lm_n29_1, lm_sn29_1, lm_n29_2, lm_sn29_2, lm_n29_3, lm_sn29_3, lm_n29_4, lm_sn29_4, lm_n29_5, lm_sn29_5, lm_n29_6, lm_sn29_6, lm_n30, lm_sn30, lm_n31, lm_sn31, lm_n31_0, lm_sn31_0, lm_n31_1, lm_sn31_1, lm_n31_2, lm_sn31_2, lm_n31_3, lm_sn31_3, lm_n32, lm_sn32, lm_n32_0, lm_sn32_0, lm_n32_1, lm_sn32_1, lm_n32_2, lm_sn32_2, lm_n32_3, lm_sn32_3, lm_n33, lm_sn33, lm_n34, lm_sn34, tu_at, tu_ne, tu_nk, vu_at, vu_ne, jb_some, Option.bind_some, Option.bind_none, one0, if_true, if_false, b4, hF, on_le, hk, b5 k hk', hdp, x1, x2, c1, c2, cT_14, d5 k hk', on1]
    have hg := i1.1
    have hp0 := pos_iff hg
    by_cases g0 : st.1 = 0
    · have hz : st.1.toInt = 0 := by rw [g0, k32_0]
      simp only [hp0, g0, if_true]
      simp only [g0] at hIs
      rcases hb with rfl | hb
      · simp only [if_true, lgc, lgc0, k64_0]
        rw [if_neg (by decide), if_pos (by decide)]
        exact hIs _ _ (.inl rfl) hmo
      · have hb1 : ¬ b = -1 := by
          intro h
          rw [h, m1i] at hb
          omega
        have e1 := mul64 (a := st.1) (b := b) (by omega)
        have e2 := mul64 (a := mo) (b := A 24 k) (by omega)
        rw [g0] at e1
        have e3 : ((0 : Int32).toInt64 * b.toInt64 - mo.toInt64 * (A 24 k).toInt64).toInt = - (mo.toInt * (A 24 k).toInt) := by
          rw [Int64.toInt_sub, e1.1, e2.1, k32_0, Int.zero_mul]
          exact (Int.bmod_eq_of_le (by omega) (by omega)).trans (by omega)
        have e4 := Int.mul_nonneg hmo (show 0 ≤ (A 24 k).toInt by omega)
        simp only [if_neg hb1, lgc, lgc0, k64_0, e3]
        rw [if_neg (by omega)]
        split
        · exact hIs _ _ (.inr hb) hmo
        · exact hIs _ _ (.inr hb) hmo
    · have hz : 0 < st.1.toInt := by
        have : st.1.toInt ≠ 0 := fun h => g0 (Int32.toInt_inj.mp (by rw [h, k32_0]))
        omega
      simp only [hp0, if_neg g0]
      rcases hb with rfl | hb
      · simp only [if_true, lgc, k64_0, k64_1, Int32.toInt_toInt64]
        rw [if_pos hz, if_pos (by decide)]
        exact hIs _ _ (.inr hs) hg
      · have hb1 : ¬ b = -1 := by
          intro h
          rw [h, m1i] at hb
          omega
        have e1 := mul64 (a := st.1) (b := b) (by omega)
        have e2 := mul64 (a := mo) (b := A 24 k) (by omega)
        have e3 : (st.1.toInt64 * b.toInt64 - mo.toInt64 * (A 24 k).toInt64).toInt = st.1.toInt * b.toInt - mo.toInt * (A 24 k).toInt := by
          rw [Int64.toInt_sub, e1.1, e2.1]
          exact Int.bmod_eq_of_le (by omega) (by omega)
        simp only [if_neg hb1, lgc, lgc0, k64_0, e3, e1.1, e2.1]
        by_cases g1 : mo.toInt * (A 24 k).toInt < st.1.toInt * b.toInt
        · rw [if_pos (by omega), if_pos g1]
          exact hIs _ _ (.inr hs) hg
        · rw [if_neg (by omega), if_neg g1]
          by_cases g2 : st.1.toInt * b.toInt = mo.toInt * (A 24 k).toInt
          · rw [if_pos (by omega), if_pos g2]
            split
            · exact hIs _ _ (.inr hb) hmo
            · exact hIs _ _ (.inr hs) hg
          · rw [if_neg (by omega), if_neg g2]
            exact hIs _ _ (.inr hb) hmo
end B2
theorem law_best (p w : Int32) (hw : w = 0 ∨ w = 1) : alike (f_X0_best 8 p w) (f_X5_best 8 p w) := by
  refine alike_mk fun c np nd nb ns nj no dp bd jp ld rw rk T A F L GF GA hc hR => ?_
  obtain ⟨hP, hD, hB, hA, hL, hT, hK, hJ, hO, hS⟩ := id hR
  obtain ⟨d12, dF, dT, dt, dd⟩ := id hD
  obtain ⟨p8, pF, pT, pp⟩ := id hP
  obtain ⟨k6, kF, kT, kk⟩ := id hK
  unfold f_X0_best f_X5_best
  simp only [y_is, lm_is, Option.bind_some, isD0 dT d12, isD5 dF d12, jb_some]
  by_cases hp : 0 ≤ p.toInt ∧ p.toInt < nd
  · obtain ⟨d, hd, rfl⟩ := in_nat hp
    obtain ⟨q1, q2, q3⟩ := dd d hd
    obtain ⟨a1, a2, _⟩ := pp (dp d) q1
    simp -implicitDefEqProofs (maxSteps := 2000000) (disch := omega) only [lm_is, lm_g0, lm_g1, lm_g2, lm_g3, lm_g4, lm_g5, lm_g6, lm_g7, lm_g8, lm_g9, lm_g10, lm_g11, lm_g12, lm_g13, lm_g14, lm_g15, lm_g16, lm_g17, lm_g18, lm_g19, lm_g20, lm_g21, lm_g22, lm_g23, lm_g24, lm_g25, lm_g26, lm_g27, lm_g28, lm_g29, lm_g30, lm_g31, lm_g32, lm_g33, lm_g34, lm_g35, lm_g36, lm_g37, lm_g38, lm_g39, lm_g40, lm_g41, lm_g42, lm_g43, lm_g44, lm_g45, lm_g46, lm_g47, lm_g48, lm_g49, lm_g50, lm_g51, lm_p1, lm_p6, lm_p12, lm_p13, lm_p22, lm_p23, lm_p29, lm_p30, lm_p31, lm_p32, lm_p33, lm_p34, lm_p35, lm_p37, lm_p41, lm_p44, lm_p45, lm_p51, y_is, y_g0, y_g1, y_p1, y_g2, y_g3, y_p3, y_g4, y_p4, y_g5, y_g6, y_g7, y_g8, y_g9, y_g10, y_p10, y_g12, y_p12, y_g13, y_g14, y_p14, y_g15, y_g16, y_p16, y_g17, y_g18, y_p18, y_g19, y_p19, y_g20, y_g21, y_g22, y_p22, y_g23, y_p23, y_g24, y_p24, y_g25, y_p25, y_g26, y_g27, y_p27, y_g11, y_r11, y12_is, y12_g0, y12_p0, y12_g1, y12_g2, y12_p2, y12_g3, y13_is, y13_g0, y13_p0, y13_g1, y13_g2, y13_p2, y13_g3, y14_is, y14_g0, y14_p0, y14_g1, y14_g2, y14_p2, y14_g3, y1_i, y1_i0, y1_i1, y1_i2, y1_i3, y1_i4, y1_i5, y11_i, y11_i0, y11_i1, y11_i2, y11_i3, y11_i4, y11_i5, y11_s, y11_s0, y11_s1, y11_s2, y11_s3, y11_s4, y11_s5, y16_i, y16_i0, y16_i1, y16_i2, y16_s, y16_s0, y16_s1, y16_s2, y17_i, y17_i0, y17_i1, y17_i2, y17_i3, y17_i4, y17_i5, y17_s, y17_s0, y17_s1, y17_s2, y17_s3, y17_s4, y17_s5, y19_i, y19_i0, y19_i1, y19_i2, y19_i3, y19_i4, y19_i5, y19_i6, y19_s, y19_s0, y19_s1, y19_s2, y19_s3, y19_s4, y19_s5, y19_s6, y20_i, y20_i0, y20_i1, y20_i2, y20_i3, y20_i4, y20_i5, y20_i6, y20_s, y20_s0, y20_s1, y20_s2, y20_s3, y20_s4, y20_s5, y20_s6, y9_a, y10_a, y15_a, y18_a, y21_a, yp_is, yp_g0, yp_p0, yp_g1, yp_p1, yp_g2, yp_p2, yp_g3, yp_p3, yp_g4, yl_is, yl_g0, yl_p0, yl_g2, yl_p2, yl_e, yl_e0, ye_a, yo_is, yo_g0, yo_p0, yo_g1, yo_p1, yd_is, yd_g0, yd_g1, yd_p1, yd_g2, yd_p2, yd_g3, yd_p3, yd_g4, yd_p4, yd_g5, yd_p5, yd_g6, yd_p6, yb_is, yb_g0, yb_g1, yb_p1, yb_g2, yb_p2, yb_g3, yb_p3, yb_g4, yb_p4, yb_g5, yb_p5, yb_g6, yb_p6, yb_g7, yb_p7, ys_is, ys_g0, ys_p0, ys_r, ys_a, yj_i, yj_i0, yj_s0, yj_i1, yj_s1, yj_i2, yj_s2, lm_n1, lm_sn1, lm_n1_0, lm_sn1_0, lm_n1_1, lm_sn1_1, lm_n1_2, lm_sn1_2, lm_n1_3, lm_sn1_3, lm_n1_4, lm_sn1_4, lm_n1_5, lm_sn1_5, lm_n2, lm_sn2, lm_n3, lm_sn3, lm_n4, lm_sn4, lm_n5, lm_sn5, lm_n6, lm_sn6, lm_n7, lm_sn7, lm_n8, lm_sn8, lm_n9, lm_sn9, lm_n10, lm_sn10, lm_n11, lm_sn11, lm_n12, lm_sn12, lm_n13, lm_sn13, lm_n14, lm_sn14, lm_n15, lm_sn15, lm_n16, lm_sn16, lm_n17, lm_sn17, lm_n18, lm_sn18, lm_n19, lm_n19_0, lm_sn19_0, lm_n19_1, lm_sn19_1, lm_n19_2, lm_sn19_2, lm_n19_3, lm_sn19_3, lm_n19_4, lm_sn19_4, lm_n19_5, lm_sn19_5, lm_n19_6, lm_sn19_6, lm_n20, lm_sn20, lm_n21, lm_sn21, lm_n22, lm_sn22, lm_n23, lm_sn23, lm_n23_0, lm_sn23_0, lm_n23_1, lm_sn23_1, lm_n23_2, lm_sn23_2, lm_n24, lm_sn24, lm_n24_0, lm_sn24_0, lm_n24_1, lm_sn24_1, lm_n24_2, lm_sn24_2, lm_n24_3, lm_sn24_3, lm_n24_4, lm_sn24_4, lm_n24_5, lm_sn24_5, lm_n25, lm_sn25, lm_n25_0, lm_sn25_0, lm_n25_1, lm_sn25_1, lm_n25_2, lm_sn25_2, lm_n25_3, lm_sn25_3, lm_n25_4, lm_sn25_4, lm_n25_5, lm_sn25_5, lm_n25_6, lm_sn25_6, lm_n26, lm_sn26, lm_n26_0, lm_sn26_0, lm_n26_1, lm_sn26_1, lm_n26_2, lm_sn26_2, lm_n26_3, lm_sn26_3, lm_n26_4, lm_sn26_4, lm_n26_5, lm_sn26_5, lm_n26_6, lm_sn26_6, lm_n27, lm_sn27, lm_n27_0, lm_sn27_0, lm_n27_1, lm_sn27_1, lm_n27_2, lm_sn27_2, lm_n27_3, lm_sn27_3, lm_n27_4, lm_sn27_4, lm_n27_5, lm_sn27_5, lm_n27_6, lm_sn27_6, lm_n28, lm_sn28, lm_n28_0, lm_sn28_0, lm_n28_1, lm_sn28_1, lm_n28_2, lm_sn28_2, lm_n28_3, lm_sn28_3, lm_n28_4, lm_sn28_4, lm_n28_5, lm_sn28_5, lm_n28_6, lm_sn28_6, lm_n29, lm_sn29, lm_n29_0, lm_sn29_0, lm_n29_1, lm_sn29_1, lm_n29_2, lm_sn29_2, lm_n29_3, lm_sn29_3, lm_n29_4, lm_sn29_4, lm_n29_5, lm_sn29_5, lm_n29_6, lm_sn29_6, lm_n30, lm_sn30, lm_n31, lm_sn31, lm_n31_0, lm_sn31_0, lm_n31_1, lm_sn31_1, lm_n31_2, lm_sn31_2, lm_n31_3, lm_sn31_3, lm_n32, lm_sn32, lm_n32_0, lm_sn32_0, lm_n32_1, lm_sn32_1, lm_n32_2, lm_sn32_2, lm_n32_3, lm_sn32_3, lm_n33, lm_sn33, lm_n34, lm_sn34, tu_at, tu_ne, tu_nk, vu_at, vu_ne, jb_some, Option.bind_some, Option.bind_none, one0, if_true, if_false, if_pos hp]
    have hBT : BT no (dp d) ns T A := ⟨PT_of hP hL q1, fun k hk => (hL.2 k hk).1, a1.2.1, kT, fun k hk => (kk k hk).1, hA.2.2.2.2.2.2.2.1, hA.2.2.2.2.2.2.2.2⟩
    obtain ⟨r, T', GF', GA', h1, h2, h3⟩ := best_L (nd := nd) (nb := nb) (dp := dp) (bd := bd) (ld := ld) (rw := rw) (rk := rk) (F := F) (L := L) q1 p8 (show d < 12 by omega) q2 (fun k hk => (hL.2 k hk).2) ⟨a2.1, a2.2.1⟩ kF k6 (fun k hk => (kk k hk).2) hw ns 0 300 (-1) 0 T GF GA hBT (by omega) (by omega) (.inl rfl) (by rw [k32_0]; omega)
    exact ⟨r, _, _, h1, h2, Rst_mk (ns := ns) (nj := nj) (jp := jp) ⟨RP_congr (fun n j h => h3 n j (by omega)) (fun _ _ _ => rfl) rfl hP, RD_congr (Nat.le_succ c) (fun n j h => h3 n j (by omega)) (fun _ _ _ => rfl) (fun _ _ => rfl) hD, RB_congr (Nat.le_succ c) (fun n j h => h3 n j (by omega)) (fun _ _ _ => rfl) (fun _ _ => rfl) hB, RA_congr (fun n j h => h3 n j (by omega)) (fun _ _ _ => rfl) hA, RL_congr (fun n j h => h3 n j (by omega)) (fun _ _ _ => rfl) hL, RT_congr (h3 8 12 (by omega)) (fun _ _ => rfl) hT, RK_congr (fun n j h => h3 n j (by omega)) (fun _ _ _ => rfl) rfl hK, RJ_congr (fun n j h => h3 n j (by omega)) (fun _ _ _ => rfl) (fun _ _ => rfl) hJ, RO_congr (fun n j h => h3 n j (by omega)) (fun _ _ => rfl) hO, RS_congr (fun n j h => h3 n j (by omega)) (fun _ _ _ => rfl) hS⟩⟩
  · simp only [if_neg hp, if_true]
    exact ⟨_, _, _, rfl, rfl, Rst_mk (Rel_succ hR)⟩
