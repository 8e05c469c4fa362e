/-! samples, what waits, counts -/
set_option maxRecDepth 100000
theorem m1i : (-1 : Int32).toInt = -1 := by decide
theorem ofn_m1 {j : Nat} (h : j < 100000) : (Int32.ofNat j = -1) = False := by
  apply propext
  refine ⟨fun e => ?_, False.elim⟩
  have := congrArg Int32.toInt e
  rw [oi (by omega), m1i] at this
  omega
theorem add_m1 (a : Int32) : a + (-1) = a - 1 := by
  apply Int32.toInt_inj.mp
  rw [Int32.toInt_add, Int32.toInt_sub, m1i, k32_1]
  rfl
/-- the nearest one looked at, down and up -/
def nearD (A : Nat → Nat → Int32) (b : Nat) : Nat → Int32
  | 0 => 0
  | k + 1 => if A 11 k = A 11 b ∧ A 18 k ≠ -1 then (if A 18 k = 0 then 1 else 0) else nearD A b k
def nearU (A : Nat → Nat → Int32) (b : Nat) : Nat → Nat → Int32
  | 0, _ => 0
  | m + 1, k => if A 11 k = A 11 b ∧ A 18 k ≠ -1 then (if A 18 k = 0 then 1 else 0) else nearU A b m (k + 1)
theorem nearD_01 (A : Nat → Nat → Int32) (b : Nat) : ∀ k, nearD A b k = 0 ∨ nearD A b k = 1
  | 0 => .inl rfl
  | k + 1 => by
    unfold nearD
    split
    · split
      · exact .inr rfl
      · exact .inl rfl
    · exact nearD_01 A b k
theorem nearU_01 (A : Nat → Nat → Int32) (b : Nat) : ∀ m k, nearU A b m k = 0 ∨ nearU A b m k = 1
  | 0, _ => .inl rfl
  | m + 1, k => by
    unfold nearU
    split
    · split
      · exact .inr rfl
      · exact .inl rfl
    · exact nearU_01 A b m (k + 1)
theorem z1 : ((0 : Int32) = 1) = False := by decide
theorem t20 : ((2 : Int32) ≤ 0) = False := by decide
theorem t10 : ((1 : Int32) ≤ 0) = False := by decide
theorem t00 : ((0 : Int32) ≤ 0) = True := by decide
theorem t12 : ((1 : Int32) = 2) = False := by decide
theorem m10 : ((-1 : Int32) = 0) = False := by decide
theorem z0m : ((0 : Int32) = -1) = False := by decide
theorem n1m : ((1 : Int32) = -1) = False := by decide
theorem m11 : ((-1 : Int32) = 1) = False := by decide
section LK
variable {c c' np nd nb na ns nj : Nat} {no dp bd jp : Nat → Nat} {ld : Option Nat} {rw : Nat → Option Nat} {rk : Nat → Nat × Nat} {T T' A A' : Nat → Nat → Int32} {F F' GF : Nat → Int32} {L : Nat → Int64} {GA : Nat → Nat → Int32}
/-- two bars are of one die: as names, as numbers -/
theorem same_die (hB : RB c nb nd bd T A F) (h12 : nd ≤ 12) {i b : Nat} (hi : i < nb) (hb : b < nb) : (200 + bd i = 200 + bd b) = (A 11 i = A 11 b) := by
  obtain ⟨b2, bF, bT, bt, bb⟩ := id hB
  have h1 := (bb i hi).1
  have h2 := (bb b hb).1
  rw [h1.2, h2.2, on_eq (by omega) (by omega)]
  apply propext
  omega
theorem isB_in (hB : RB c nb nd bd T A F) {i : Nat} (hi : i < nb) (R) : f_X0_isBar 8 (Int32.ofNat i) (lay (kX np nd nb no rk) T R) = some (1, lay (kX np nd nb no rk) T R) := by
  obtain ⟨b2, bF, bT, bt, bb⟩ := id hB
  rw [isB0 bT b2, if_pos (ex_in hi (by omega))]
theorem near_step (hB : RB c nb nd bd T A F) (h12 : nd ≤ 12) {b i : Nat} (hb : b < nb) (hi : i < nb) (N : Nat) (w : Int32) : f_X0_isNear_L4 (N + 1) 8 (Int32.ofNat b) w (Int32.ofNat i) (lay (kX np nd nb no rk) T (rX np nd nb no dp bd ld rw)) = if A 11 i = A 11 b ∧ A 18 i ≠ -1 then some (if A 18 i = 0 then 1 else 0, (lay (kX np nd nb no rk) T (rX np nd nb no dp bd ld rw))) else f_X0_isNear_L4 N 8 (Int32.ofNat b) w (Int32.ofNat i + w) (lay (kX np nd nb no rk) T (rX np nd nb no dp bd ld rw)) := by
  obtain ⟨b2, bF, bT, bt, bb⟩ := id hB
  obtain ⟨q1, q2, q3, q4, q5⟩ := bb i hi
  rw [f_X0_isNear_L4]
  unfold f_X0_isNear_j64
  simp -implicitDefEqProofs (maxSteps := 2000000) (disch := omega) only [lm_is, lm_g0, lm_g1, lm_g2, lm_g3, lm_g4, lm_g5, lm_g6, lm_g7, lm_g8, lm_g9, lm_g10, lm_g11, lm_g12, lm_g13, lm_g14, lm_g15, lm_g16, lm_g17, lm_g18, lm_g19, lm_g20, lm_g21, lm_g22, lm_g23, lm_g24, lm_g25, lm_g26, lm_g27, lm_g28, lm_g29, lm_g30, lm_g31, lm_g32, lm_g33, lm_g34, lm_g35, lm_g36, lm_g37, lm_g38, lm_g39, lm_g40, lm_g41, lm_g42, lm_g43, lm_g44, lm_g45, lm_g46, lm_g47, lm_g48, lm_g49, lm_g50, lm_g51, lm_p1, lm_p6, lm_p12, lm_p13, lm_p22, lm_p23, lm_p29, lm_p30, lm_p31, lm_p32, lm_p33, lm_p34, lm_p35, lm_p37, lm_p41, lm_p44, lm_p45, lm_p51, y_is, y_g0, y_g1, y_p1, y_g2, y_g3, y_p3, y_g4, y_p4, y_g5, y_g6, y_g7, y_g8, y_g9, y_g10, y_p10, y_g12, y_p12, y_g13, y_g14, y_p14, y_g15, y_g16, y_p16, y_g17, y_g18, y_p18, y_g19, y_p19, y_g20, y_g21, y_g22, y_p22, y_g23, y_p23, y_g24, y_p24, y_g25, y_p25, y_g26, y_g27, y_p27, y_g11, y_r11, y12_is, y12_g0, y12_p0, y12_g1, y12_g2, y12_p2, y12_g3, y13_is, y13_g0, y13_p0, y13_g1, y13_g2, y13_p2, y13_g3, y14_is, y14_g0, y14_p0, y14_g1, y14_g2, y14_p2, y14_g3, y1_i, y1_i0, y1_i1, y1_i2, y1_i3, y1_i4, y1_i5, y11_i, y11_i0, y11_i1, y11_i2, y11_i3, y11_i4, y11_i5, y11_s, y11_s0, y11_s1, y11_s2, y11_s3, y11_s4, y11_s5, y16_i, y16_i0, y16_i1, y16_i2, y16_s, y16_s0, y16_s1, y16_s2, y17_i, y17_i0, y17_i1, y17_i2, y17_i3, y17_i4, y17_i5, y17_s, y17_s0, y17_s1, y17_s2, y17_s3, y17_s4, y17_s5, y19_i, y19_i0, y19_i1, y19_i2, y19_i3, y19_i4, y19_i5, y19_i6, y19_s, y19_s0, y19_s1, y19_s2, y19_s3, y19_s4, y19_s5, y19_s6, y20_i, y20_i0, y20_i1, y20_i2, y20_i3, y20_i4, y20_i5, y20_i6, y20_s, y20_s0, y20_s1, y20_s2, y20_s3, y20_s4, y20_s5, y20_s6, y9_a, y10_a, y15_a, y18_a, y21_a, yp_is, yp_g0, yp_p0, yp_g1, yp_p1, yp_g2, yp_p2, yp_g3, yp_p3, yp_g4, yl_is, yl_g0, yl_p0, yl_g2, yl_p2, yl_e, yl_e0, ye_a, yo_is, yo_g0, yo_p0, yo_g1, yo_p1, yd_is, yd_g0, yd_g1, yd_p1, yd_g2, yd_p2, yd_g3, yd_p3, yd_g4, yd_p4, yd_g5, yd_p5, yd_g6, yd_p6, yb_is, yb_g0, yb_g1, yb_p1, yb_g2, yb_p2, yb_g3, yb_p3, yb_g4, yb_p4, yb_g5, yb_p5, yb_g6, yb_p6, yb_g7, yb_p7, ys_is, ys_g0, ys_p0, ys_r, ys_a, yj_i, yj_i0, yj_s0, yj_i1, yj_s1, yj_i2, yj_s2, lm_n1, lm_sn1, lm_n1_0, lm_sn1_0, lm_n1_1, lm_sn1_1, lm_n1_2, lm_sn1_2, lm_n1_3, lm_sn1_3, lm_n1_4, lm_sn1_4, lm_n1_5, lm_sn1_5, lm_n2, lm_sn2, lm_n3, lm_sn3, lm_n4, lm_sn4, lm_n5, lm_sn5, lm_n6, lm_sn6, lm_n7, lm_sn7, lm_n8, lm_sn8, lm_n9, lm_sn9, lm_n10, lm_sn10, lm_n11, lm_sn11, lm_n12, lm_sn12, lm_n13, lm_sn13, lm_n14, lm_sn14, lm_n15, lm_sn15, lm_n16, lm_sn16, lm_n17, lm_sn17, lm_n18, lm_sn18, lm_n19, lm_n19_0, lm_sn19_0, lm_n19_1, lm_sn19_1, lm_n19_2, lm_sn19_2, lm_n19_3, lm_sn19_3, lm_n19_4, lm_sn19_4, lm_n19_5, lm_sn19_5, lm_n19_6, lm_sn19_6, lm_n20, lm_sn20, lm_n21, lm_sn21, lm_n22, lm_sn22, lm_n23, lm_sn23, lm_n23_0, lm_sn23_0, lm_n23_1, lm_sn23_1, lm_n23_2, lm_sn23_2, lm_n24, lm_sn24, lm_n24_0, lm_sn24_0, lm_n24_1, lm_sn24_1, lm_n24_2, lm_sn24_2, lm_n24_3, lm_sn24_3, lm_n24_4, lm_sn24_4, lm_n24_5, lm_sn24_5, lm_n25, lm_sn25, lm_n25_0, lm_sn25_0, lm_n25_1, lm_sn25_1, lm_n25_2, lm_sn25_2, lm_n25_3, lm_sn25_3, lm_n25_4, lm_sn25_4, lm_n25_5, lm_sn25_5, lm_n25_6, lm_sn25_6, lm_n26, lm_sn26, lm_n26_0, lm_sn26_0, lm_n26_1, lm_sn26_1, lm_n26_2, lm_sn26_2, lm_n26_3, lm_sn26_3, lm_n26_4, lm_sn26_4, lm_n26_5, lm_sn26_5, lm_n26_6, lm_sn26_6, lm_n27, lm_sn27, lm_n27_0, lm_sn27_0, lm_n27_1, lm_sn27_1, lm_n27_2, lm_sn27_2, lm_n27_3, lm_sn27_3, lm_n27_4, lm_sn27_4, lm_n27_5, lm_sn27_5, lm_n27_6, lm_sn27_6, lm_n28, lm_sn28, lm_n28_0, lm_sn28_0, lm_n28_1, lm_sn28_1, lm_n28_2, lm_sn28_2, lm_n28_3, lm_sn28_3, lm_n28_4, lm_sn28_4, lm_n28_5, lm_sn28_5, lm_n28_6, lm_sn28_6, lm_n29, lm_sn29, lm_n29_0, lm_sn29_0, lm_n29_1, lm_sn29_1, lm_n29_2, lm_sn29_2, lm_n29_3, lm_sn29_3, lm_n29_4, lm_sn29_4, lm_n29_5, lm_sn29_5, lm_n29_6, lm_sn29_6, lm_n30, lm_sn30, lm_n31, lm_sn31, lm_n31_0, lm_sn31_0, lm_n31_1, lm_sn31_1, lm_n31_2, lm_sn31_2, lm_n31_3, lm_sn31_3, lm_n32, lm_sn32, lm_n32_0, lm_sn32_0, lm_n32_1, lm_sn32_1, lm_n32_2, lm_sn32_2, lm_n32_3, lm_sn32_3, lm_n33, lm_sn33, lm_n34, lm_sn34, tu_at, tu_ne, tu_nk, vu_at, vu_ne, jb_some, Option.bind_some, Option.bind_none, one0, if_true, if_false, isB_in hB hi, same_die hB h12 hi hb]
  by_cases h1 : A 11 i = A 11 b
  · simp only [if_pos h1, h1, true_and]
    rcases q3 with ⟨e1, e2⟩ | ⟨e1, e2⟩ | ⟨e1, e2⟩
    · simp only [e1, e2, t00, if_true, ne_eq, not_true, if_false]
    · simp only [e1, e2, t20, if_true, ne_eq, if_false, z0m, not_false_eq_true]
    · simp only [e1, e2, t10, t12, ne_eq, if_false, n1m, not_false_eq_true, if_true, one0]
  · simp only [if_neg h1, h1, false_and, if_false]
theorem near_down (hB : RB c nb nd bd T A F) (h12 : nd ≤ 12) {b : Nat} (hb : b < nb) : ∀ (k N : Nat), k ≤ nb → k < N → f_X0_isNear_L4 N 8 (Int32.ofNat b) (-1) (Int32.ofNat k - 1) (lay (kX np nd nb no rk) T (rX np nd nb no dp bd ld rw)) = some (nearD A b k, (lay (kX np nd nb no rk) T (rX np nd nb no dp bd ld rw)))
  | k, 0, _, h => absurd h (Nat.not_lt_zero k)
  | 0, N + 1, _, _ => by
    obtain ⟨b2, bF, bT, bt, bb⟩ := id hB
    have e : (Int32.ofNat 0 - 1).toInt = -1 := by decide
    unfold f_X0_isNear_L4 nearD
    have hc : ¬ ((0 : Int) ≤ -1 ∧ (-1 : Int) < (nb : Int)) := by omega
    simp -implicitDefEqProofs (maxSteps := 2000000) (disch := omega) only [lm_is, lm_g0, lm_g1, lm_g2, lm_g3, lm_g4, lm_g5, lm_g6, lm_g7, lm_g8, lm_g9, lm_g10, lm_g11, lm_g12, lm_g13, lm_g14, lm_g15, lm_g16, lm_g17, lm_g18, lm_g19, lm_g20, lm_g21, lm_g22, lm_g23, lm_g24, lm_g25, lm_g26, lm_g27, lm_g28, lm_g29, lm_g30, lm_g31, lm_g32, lm_g33, lm_g34, lm_g35, lm_g36, lm_g37, lm_g38, lm_g39, lm_g40, lm_g41, lm_g42, lm_g43, lm_g44, lm_g45, lm_g46, lm_g47, lm_g48, lm_g49, lm_g50, lm_g51, lm_p1, lm_p6, lm_p12, lm_p13, lm_p22, lm_p23, lm_p29, lm_p30, lm_p31, lm_p32, lm_p33, lm_p34, lm_p35, lm_p37, lm_p41, lm_p44, lm_p45, lm_p51, y_is, y_g0, y_g1, y_p1, y_g2, y_g3, y_p3, y_g4, y_p4, y_g5, y_g6, y_g7, y_g8, y_g9, y_g10, y_p10, y_g12, y_p12, y_g13, y_g14, y_p14, y_g15, y_g16, y_p16, y_g17, y_g18, y_p18, y_g19, y_p19, y_g20, y_g21, y_g22, y_p22, y_g23, y_p23, y_g24, y_p24, y_g25, y_p25, y_g26, y_g27, y_p27, y_g11, y_r11, y12_is, y12_g0, y12_p0, y12_g1, y12_g2, y12_p2, y12_g3, y13_is, y13_g0, y13_p0, y13_g1, y13_g2, y13_p2, y13_g3, y14_is, y14_g0, y14_p0, y14_g1, y14_g2, y14_p2, y14_g3, y1_i, y1_i0, y1_i1, y1_i2, y1_i3, y1_i4, y1_i5, y11_i, y11_i0, y11_i1, y11_i2, y11_i3, y11_i4, y11_i5, y11_s, y11_s0, y11_s1, y11_s2, y11_s3, y11_s4, y11_s5, y16_i, y16_i0, y16_i1, y16_i2, y16_s, y16_s0, y16_s1, y16_s2, y17_i, y17_i0, y17_i1, y17_i2, y17_i3, y17_i4, y17_i5, y17_s, y17_s0, y17_s1, y17_s2, y17_s3, y17_s4, y17_s5, y19_i, y19_i0, y19_i1, y19_i2, y19_i3, y19_i4, y19_i5, y19_i6, y19_s, y19_s0, y19_s1, y19_s2, y19_s3, y19_s4, y19_s5, y19_s6, y20_i, y20_i0, y20_i1, y20_i2, y20_i3, y20_i4, y20_i5, y20_i6, y20_s, y20_s0, y20_s1, y20_s2, y20_s3, y20_s4, y20_s5, y20_s6, y9_a, y10_a, y15_a, y18_a, y21_a, yp_is, yp_g0, yp_p0, yp_g1, yp_p1, yp_g2, yp_p2, yp_g3, yp_p3, yp_g4, yl_is, yl_g0, yl_p0, yl_g2, yl_p2, yl_e, yl_e0, ye_a, yo_is, yo_g0, yo_p0, yo_g1, yo_p1, yd_is, yd_g0, yd_g1, yd_p1, yd_g2, yd_p2, yd_g3, yd_p3, yd_g4, yd_p4, yd_g5, yd_p5, yd_g6, yd_p6, yb_is, yb_g0, yb_g1, yb_p1, yb_g2, yb_p2, yb_g3, yb_p3, yb_g4, yb_p4, yb_g5, yb_p5, yb_g6, yb_p6, yb_g7, yb_p7, ys_is, ys_g0, ys_p0, ys_r, ys_a, yj_i, yj_i0, yj_s0, yj_i1, yj_s1, yj_i2, yj_s2, lm_n1, lm_sn1, lm_n1_0, lm_sn1_0, lm_n1_1, lm_sn1_1, lm_n1_2, lm_sn1_2, lm_n1_3, lm_sn1_3, lm_n1_4, lm_sn1_4, lm_n1_5, lm_sn1_5, lm_n2, lm_sn2, lm_n3, lm_sn3, lm_n4, lm_sn4, lm_n5, lm_sn5, lm_n6, lm_sn6, lm_n7, lm_sn7, lm_n8, lm_sn8, lm_n9, lm_sn9, lm_n10, lm_sn10, lm_n11, lm_sn11, lm_n12, lm_sn12, lm_n13, lm_sn13, lm_n14, lm_sn14, lm_n15, lm_sn15, lm_n16, lm_sn16, lm_n17, lm_sn17, lm_n18, lm_sn18, lm_n19, lm_n19_0, lm_sn19_0, lm_n19_1, lm_sn19_1, lm_n19_2, lm_sn19_2, lm_n19_3, lm_sn19_3, lm_n19_4, lm_sn19_4, lm_n19_5, lm_sn19_5, lm_n19_6, lm_sn19_6, lm_n20, lm_sn20, lm_n21, lm_sn21, lm_n22, lm_sn22, lm_n23, lm_sn23, lm_n23_0, lm_sn23_0, lm_n23_1, lm_sn23_1, lm_n23_2, lm_sn23_2, lm_n24, lm_sn24, lm_n24_0, lm_sn24_0, lm_n24_1, lm_sn24_1, lm_n24_2, lm_sn24_2, lm_n24_3, lm_sn24_3, lm_n24_4, lm_sn24_4, lm_n24_5, lm_sn24_5, lm_n25, lm_sn25, lm_n25_0, lm_sn25_0, lm_n25_1, lm_sn25_1, lm_n25_2, lm_sn25_2, lm_n25_3, lm_sn25_3, lm_n25_4, lm_sn25_4, lm_n25_5, lm_sn25_5, lm_n25_6, lm_sn25_6, lm_n26, lm_sn26, lm_n26_0, lm_sn26_0, lm_n26_1, lm_sn26_1, lm_n26_2, lm_sn26_2, lm_n26_3, lm_sn26_3, lm_n26_4, lm_sn26_4, lm_n26_5, lm_sn26_5, lm_n26_6, lm_sn26_6, lm_n27, lm_sn27, lm_n27_0, lm_sn27_0, lm_n27_1, lm_sn27_1, lm_n27_2, lm_sn27_2, lm_n27_3, lm_sn27_3, lm_n27_4, lm_sn27_4, lm_n27_5, lm_sn27_5, lm_n27_6, lm_sn27_6, lm_n28, lm_sn28, lm_n28_0, lm_sn28_0, lm_n28_1, lm_sn28_1, lm_n28_2, lm_sn28_2, lm_n28_3, lm_sn28_3, lm_n28_4, lm_sn28_4, lm_n28_5, lm_sn28_5, lm_n28_6, lm_sn28_6, lm_n29, lm_sn29, lm_n29_0, lm_sn29_0, lm_n29_1, lm_sn29_1, lm_n29_2, lm_sn29_2, lm_n29_3, lm_sn29_3, lm_n29_4, lm_sn29_4, lm_n29_5, lm_sn29_5, lm_n29_6, lm_sn29_6, lm_n30, lm_sn30, lm_n31, lm_sn31, lm_n31_0, lm_sn31_0, lm_n31_1, lm_sn31_1, lm_n31_2, lm_sn31_2, lm_n31_3, lm_sn31_3, lm_n32, lm_sn32, lm_n32_0, lm_sn32_0, lm_n32_1, lm_sn32_1, lm_n32_2, lm_sn32_2, lm_n32_3, lm_sn32_3, lm_n33, lm_sn33, lm_n34, lm_sn34, tu_at, tu_ne, tu_nk, vu_at, vu_ne, jb_some, Option.bind_some, Option.bind_none, one0, if_true, if_false, isB0 bT b2, e, if_neg hc]
  | k + 1, N + 1, hk, h => by
    have := hB.1
    rw [onm (by omega), near_step hB h12 hb (by omega), add_m1, near_down hB h12 hb k N (by omega) (by omega), nearD]
    split <;> rfl
theorem near_up (hB : RB c nb nd bd T A F) (h12 : nd ≤ 12) {b : Nat} (hb : b < nb) : ∀ (m k N : Nat), k + m = nb → m < N → f_X0_isNear_L4 N 8 (Int32.ofNat b) 1 (Int32.ofNat k) (lay (kX np nd nb no rk) T (rX np nd nb no dp bd ld rw)) = some (nearU A b m k, (lay (kX np nd nb no rk) T (rX np nd nb no dp bd ld rw)))
  | m, k, 0, _, h => absurd h (Nat.not_lt_zero m)
  | 0, k, N + 1, e, _ => by
    obtain ⟨b2, bF, bT, bt, bb⟩ := id hB
    have e2 : (Int32.ofNat k).toInt = (nb : Int) := by rw [oi (by omega)]; omega
    unfold f_X0_isNear_L4 nearU
    have hc : ¬ (0 ≤ (nb : Int) ∧ (nb : Int) < (nb : Int)) := by omega
    simp -implicitDefEqProofs (maxSteps := 2000000) (disch := omega) only [lm_is, lm_g0, lm_g1, lm_g2, lm_g3, lm_g4, lm_g5, lm_g6, lm_g7, lm_g8, lm_g9, lm_g10, lm_g11, lm_g12, lm_g13, lm_g14, lm_g15, lm_g16, lm_g17, lm_g18, lm_g19, lm_g20, lm_g21, lm_g22, lm_g23, lm_g24, lm_g25, lm_g26, lm_g27, lm_g28, lm_g29, lm_g30, lm_g31, lm_g32, lm_g33, lm_g34, lm_g35, lm_g36, lm_g37, lm_g38, lm_g39, lm_g40, lm_g41, lm_g42, lm_g43, lm_g44, lm_g45, lm_g46, lm_g47, lm_g48, lm_g49, lm_g50, lm_g51, lm_p1, lm_p6, lm_p12, lm_p13, lm_p22, lm_p23, lm_p29, lm_p30, lm_p31, lm_p32, lm_p33, lm_p34, lm_p35, lm_p37, lm_p41, lm_p44, lm_p45, lm_p51, y_is, y_g0, y_g1, y_p1, y_g2, y_g3, y_p3, y_g4, y_p4, y_g5, y_g6, y_g7, y_g8, y_g9, y_g10, y_p10, y_g12, y_p12, y_g13, y_g14, y_p14, y_g15, y_g16, y_p16, y_g17, y_g18, y_p18, y_g19, y_p19, y_g20, y_g21, y_g22, y_p22, y_g23, y_p23, y_g24, y_p24, y_g25, y_p25, y_g26, y_g27, y_p27, y_g11, y_r11, y12_is, y12_g0, y12_p0, y12_g1, y12_g2, y12_p2, y12_g3, y13_is, y13_g0, y13_p0, y13_g1, y13_g2, y13_p2, y13_g3, y14_is, y14_g0, y14_p0, y14_g1, y14_g2, y14_p2, y14_g3, y1_i, y1_i0, y1_i1, y1_i2, y1_i3, y1_i4, y1_i5, y11_i, y11_i0, y11_i1, y11_i2, y11_i3, y11_i4, y11_i5, y11_s, y11_s0, y11_s1, y11_s2, y11_s3, y11_s4, y11_s5, y16_i, y16_i0, y16_i1, y16_i2, y16_s, y16_s0, y16_s1, y16_s2, y17_i, y17_i0, y17_i1, y17_i2, y17_i3, y17_i4, y17_i5, y17_s, y17_s0, y17_s1, y17_s2, y17_s3, y17_s4, y17_s5, y19_i, y19_i0, y19_i1, y19_i2, y19_i3, y19_i4, y19_i5, y19_i6, y19_s, y19_s0, y19_s1, y19_s2, y19_s3, y19_s4, y19_s5, y19_s6, y20_i, y20_i0, y20_i1, y20_i2, y20_i3, y20_i4, y20_i5, y20_i6, y20_s, y20_s0, y20_s1, y20_s2, y20_s3, y20_s4, y20_s5, y20_s6, y9_a, y10_a, y15_a, y18_a, y21_a, yp_is, yp_g0, yp_p0, yp_g1, yp_p1, yp_g2, yp_p2, yp_g3, yp_p3, yp_g4, yl_is, yl_g0, yl_p0, yl_g2, yl_p2, yl_e, yl_e0, ye_a, yo_is, yo_g0, yo_p0, yo_g1, yo_p1, yd_is, yd_g0, yd_g1, yd_p1, yd_g2, yd_p2, yd_g3, yd_p3, yd_g4, yd_p4, yd_g5, yd_p5, yd_g6, yd_p6, yb_is, yb_g0, yb_g1, yb_p1, yb_g2, yb_p2, yb_g3, yb_p3, yb_g4, yb_p4, yb_g5, yb_p5, yb_g6, yb_p6, yb_g7, yb_p7, ys_is, ys_g0, ys_p0, ys_r, ys_a, yj_i, yj_i0, yj_s0, yj_i1, yj_s1, yj_i2, yj_s2, lm_n1, lm_sn1, lm_n1_0, lm_sn1_0, lm_n1_1, lm_sn1_1, lm_n1_2, lm_sn1_2, lm_n1_3, lm_sn1_3, lm_n1_4, lm_sn1_4, lm_n1_5, lm_sn1_5, lm_n2, lm_sn2, lm_n3, lm_sn3, lm_n4, lm_sn4, lm_n5, lm_sn5, lm_n6, lm_sn6, lm_n7, lm_sn7, lm_n8, lm_sn8, lm_n9, lm_sn9, lm_n10, lm_sn10, lm_n11, lm_sn11, lm_n12, lm_sn12, lm_n13, lm_sn13, lm_n14, lm_sn14, lm_n15, lm_sn15, lm_n16, lm_sn16, lm_n17, lm_sn17, lm_n18, lm_sn18, lm_n19, lm_n19_0, lm_sn19_0, lm_n19_1, lm_sn19_1, lm_n19_2, lm_sn19_2, lm_n19_3, lm_sn19_3, lm_n19_4, lm_sn19_4, lm_n19_5, lm_sn19_5, lm_n19_6, lm_sn19_6, lm_n20, lm_sn20, lm_n21, lm_sn21, lm_n22, lm_sn22, lm_n23, lm_sn23, lm_n23_0, lm_sn23_0, lm_n23_1, lm_sn23_1, lm_n23_2, lm_sn23_2, lm_n24, lm_sn24, lm_n24_0, lm_sn24_0, lm_n24_1, lm_sn24_1, lm_n24_2, lm_sn24_2, lm_n24_3, lm_sn24_3, lm_n24_4, lm_sn24_4, lm_n24_5, lm_sn24_5, lm_n25, lm_sn25, lm_n25_0, lm_sn25_0, lm_n25_1, lm_sn25_1, lm_n25_2, lm_sn25_2, lm_n25_3, lm_sn25_3, lm_n25_4, lm_sn25_4, lm_n25_5, lm_sn25_5, lm_n25_6, lm_sn25_6, lm_n26, lm_sn26, lm_n26_0, lm_sn26_0, lm_n26_1, lm_sn26_1, lm_n26_2, lm_sn26_2, lm_n26_3, lm_sn26_3, lm_n26_4, lm_sn26_4, lm_n26_5, lm_sn26_5, lm_n26_6, lm_sn26_6, lm_n27, lm_sn27, lm_n27_0, lm_sn27_0, lm_n27_1, lm_sn27_1, lm_n27_2, lm_sn27_2, lm_n27_3, lm_sn27_3, lm_n27_4, lm_sn27_4, lm_n27_5, lm_sn27_5, lm_n27_6, lm_sn27_6, lm_n28, lm_sn28, lm_n28_0, lm_sn28_0, lm_n28_1, lm_sn28_1, lm_n28_2, lm_sn28_2, lm_n28_3, lm_sn28_3, lm_n28_4, lm_sn28_4, lm_n28_5, lm_sn28_5, lm_n28_6, lm_sn28_6, lm_n29, lm_sn29, lm_n29_0, lm_sn29_0, lm_n29_1, lm_sn29_1, lm_n29_2, lm_sn29_2, lm_n29_3, lm_sn29_3, lm_n29_4, lm_sn29_4, lm_n29_5, lm_sn29_5, lm_n29_6, lm_sn29_6, lm_n30, lm_sn30, lm_n31, lm_sn31, lm_n31_0, lm_sn31_0, lm_n31_1, lm_sn31_1, lm_n31_2, lm_sn31_2, lm_n31_3, lm_sn31_3, lm_n32, lm_sn32, lm_n32_0, lm_sn32_0, lm_n32_1, lm_sn32_1, lm_n32_2, lm_sn32_2, lm_n32_3, lm_sn32_3, lm_n33, lm_sn33, lm_n34, lm_sn34, tu_at, tu_ne, tu_nk, vu_at, vu_ne, jb_some, Option.bind_some, Option.bind_none, one0, if_true, if_false, isB0 bT b2, e2, if_neg hc]
  | m + 1, k, N + 1, e, h => by
    have := hB.1
    rw [near_step hB h12 hb (by omega), on1 (by omega), near_up hB h12 hb m (k + 1) N (by omega) (by omega), nearU]
    split <;> rfl
/-- the reference's scan: one step -/
theorem sus_step (hB : RB c nb nd bd T A F) (h12 : nd ≤ 12) {b i : Nat} (hb : b < nb) (hi : i < nb) (K) (N : Nat) (s w : Int32) (hs : s = 0 ∨ s = 1) : f_X5_isSuspect_L42 K (N + 2) 8 (Int32.ofNat b) s w 0 (Int32.ofNat i) (layM F A L GF GA) = if A 11 i = A 11 b ∧ A 18 i = 1 then K 8 (Int32.ofNat b) s (w + 2) (layM F A L GF GA) else f_X5_isSuspect_L42 K (N + 1) 8 (Int32.ofNat b) (if A 11 i = A 11 b ∧ A 18 i = 0 then 1 else s) w 0 (Int32.ofNat i + w) (layM F A L GF GA) := by
  obtain ⟨b2, bF, bT, bt, bb⟩ := id hB
  obtain ⟨q1, q2, q3, q4, q5⟩ := bb i hi
  have hn : ¬ nb ≤ i := by omega
  have hi' : ¬ i < 0 := by omega
  rw [f_X5_isSuspect_L42]
  unfold f_X5_isSuspect_j93 f_X5_isSuspect_j109 f_X5_isSuspect_j114 f_X5_isSuspect_j115
  simp -implicitDefEqProofs (maxSteps := 2000000) (disch := omega) only [lm_is, lm_g0, lm_g1, lm_g2, lm_g3, lm_g4, lm_g5, lm_g6, lm_g7, lm_g8, lm_g9, lm_g10, lm_g11, lm_g12, lm_g13, lm_g14, lm_g15, lm_g16, lm_g17, lm_g18, lm_g19, lm_g20, lm_g21, lm_g22, lm_g23, lm_g24, lm_g25, lm_g26, lm_g27, lm_g28, lm_g29, lm_g30, lm_g31, lm_g32, lm_g33, lm_g34, lm_g35, lm_g36, lm_g37, lm_g38, lm_g39, lm_g40, lm_g41, lm_g42, lm_g43, lm_g44, lm_g45, lm_g46, lm_g47, lm_g48, lm_g49, lm_g50, lm_g51, lm_p1, lm_p6, lm_p12, lm_p13, lm_p22, lm_p23, lm_p29, lm_p30, lm_p31, lm_p32, lm_p33, lm_p34, lm_p35, lm_p37, lm_p41, lm_p44, lm_p45, lm_p51, y_is, y_g0, y_g1, y_p1, y_g2, y_g3, y_p3, y_g4, y_p4, y_g5, y_g6, y_g7, y_g8, y_g9, y_g10, y_p10, y_g12, y_p12, y_g13, y_g14, y_p14, y_g15, y_g16, y_p16, y_g17, y_g18, y_p18, y_g19, y_p19, y_g20, y_g21, y_g22, y_p22, y_g23, y_p23, y_g24, y_p24, y_g25, y_p25, y_g26, y_g27, y_p27, y_g11, y_r11, y12_is, y12_g0, y12_p0, y12_g1, y12_g2, y12_p2, y12_g3, y13_is, y13_g0, y13_p0, y13_g1, y13_g2, y13_p2, y13_g3, y14_is, y14_g0, y14_p0, y14_g1, y14_g2, y14_p2, y14_g3, y1_i, y1_i0, y1_i1, y1_i2, y1_i3, y1_i4, y1_i5, y11_i, y11_i0, y11_i1, y11_i2, y11_i3, y11_i4, y11_i5, y11_s, y11_s0, y11_s1, y11_s2, y11_s3, y11_s4, y11_s5, y16_i, y16_i0, y16_i1, y16_i2, y16_s, y16_s0, y16_s1, y16_s2, y17_i, y17_i0, y17_i1, y17_i2, y17_i3, y17_i4, y17_i5, y17_s, y17_s0, y17_s1, y17_s2, y17_s3, y17_s4, y17_s5, y19_i, y19_i0, y19_i1, y19_i2, y19_i3, y19_i4, y19_i5, y19_i6, y19_s, y19_s0, y19_s1, y19_s2, y19_s3, y19_s4, y19_s5, y19_s6, y20_i, y20_i0, y20_i1, y20_i2, y20_i3, y20_i4, y20_i5, y20_i6, y20_s, y20_s0, y20_s1, y20_s2, y20_s3, y20_s4, y20_s5, y20_s6, y9_a, y10_a, y15_a, y18_a, y21_a, yp_is, yp_g0, yp_p0, yp_g1, yp_p1, yp_g2, yp_p2, yp_g3, yp_p3, yp_g4, yl_is, yl_g0, yl_p0, yl_g2, yl_p2, yl_e, yl_e0, ye_a, yo_is, yo_g0, yo_p0, yo_g1, yo_p1, yd_is, yd_g0, yd_g1, yd_p1, yd_g2, yd_p2, yd_g3, yd_p3, yd_g4, yd_p4, yd_g5, yd_p5, yd_g6, yd_p6, yb_is, yb_g0, yb_g1, yb_p1, yb_g2, yb_p2, yb_g3, yb_p3, yb_g4, yb_p4, yb_g5, yb_p5, yb_g6, yb_p6, yb_g7, yb_p7, ys_is, ys_g0, ys_p0, ys_r, ys_a, yj_i, yj_i0, yj_s0, yj_i1, yj_s1, yj_i2, yj_s2, lm_n1, lm_sn1, lm_n1_0, lm_sn1_0, lm_n1_1, lm_sn1_1, lm_n1_2, lm_sn1_2, lm_n1_3, lm_sn1_3, lm_n1_4, lm_sn1_4, lm_n1_5, lm_sn1_5, lm_n2, lm_sn2, lm_n3, lm_sn3, lm_n4, lm_sn4, lm_n5, lm_sn5, lm_n6, lm_sn6, lm_n7, lm_sn7, lm_n8, lm_sn8, lm_n9, lm_sn9, lm_n10, lm_sn10, lm_n11, lm_sn11, lm_n12, lm_sn12, lm_n13, lm_sn13, lm_n14, lm_sn14, lm_n15, lm_sn15, lm_n16, lm_sn16, lm_n17, lm_sn17, lm_n18, lm_sn18, lm_n19, lm_n19_0, lm_sn19_0, lm_n19_1, lm_sn19_1, lm_n19_2, lm_sn19_2, lm_n19_3, lm_sn19_3, lm_n19_4, lm_sn19_4, lm_n19_5, lm_sn19_5, lm_n19_6, lm_sn19_6, lm_n20, lm_sn20, lm_n21, lm_sn21, lm_n22, lm_sn22, lm_n23, lm_sn23, lm_n23_0, lm_sn23_0, lm_n23_1, lm_sn23_1, lm_n23_2, lm_sn23_2, lm_n24, lm_sn24, lm_n24_0, lm_sn24_0, lm_n24_1, lm_sn24_1, lm_n24_2, lm_sn24_2, lm_n24_3, lm_sn24_3, lm_n24_4, lm_sn24_4, lm_n24_5, lm_sn24_5, lm_n25, lm_sn25, lm_n25_0, lm_sn25_0, lm_n25_1, lm_sn25_1, lm_n25_2, lm_sn25_2, lm_n25_3, lm_sn25_3, lm_n25_4, lm_sn25_4, lm_n25_5, lm_sn25_5, lm_n25_6, lm_sn25_6, lm_n26, lm_sn26, lm_n26_0, lm_sn26_0, lm_n26_1, lm_sn26_1, lm_n26_2, lm_sn26_2, lm_n26_3, lm_sn26_3, lm_n26_4, lm_sn26_4, lm_n26_5, lm_sn26_5, lm_n26_6, lm_sn26_6, lm_n27, lm_sn27, lm_n27_0, lm_sn27_0, lm_n27_1, lm_sn27_1, lm_n27_2, lm_sn27_2, lm_n27_3, lm_sn27_3, lm_n27_4, lm_sn27_4, lm_n27_5, lm_sn27_5, lm_n27_6, lm_sn27_6, lm_n28, lm_sn28, lm_n28_0, lm_sn28_0, lm_n28_1, lm_sn28_1, lm_n28_2, lm_sn28_2, lm_n28_3, lm_sn28_3, lm_n28_4, lm_sn28_4, lm_n28_5, lm_sn28_5, lm_n28_6, lm_sn28_6, lm_n29, lm_sn29, lm_n29_0, lm_sn29_0, lm_n29_1, lm_sn29_1, lm_n29_2, lm_sn29_2, lm_n29_3, lm_sn29_3, lm_n29_4, lm_sn29_4, lm_n29_5, lm_sn29_5, lm_n29_6, lm_sn29_6, lm_n30, lm_sn30, lm_n31, lm_sn31, lm_n31_0, lm_sn31_0, lm_n31_1, lm_sn31_1, lm_n31_2, lm_sn31_2, lm_n31_3, lm_sn31_3, lm_n32, lm_sn32, lm_n32_0, lm_sn32_0, lm_n32_1, lm_sn32_1, lm_n32_2, lm_sn32_2, lm_n32_3, lm_sn32_3, lm_n33, lm_sn33, lm_n34, lm_sn34, tu_at, tu_ne, tu_nk, vu_at, vu_ne, jb_some, Option.bind_some, Option.bind_none, one0, if_true, if_false, bF, on_le, on_s0, hn, hi']
  by_cases h1 : A 11 i = A 11 b
  · rcases q3 with ⟨e1, e2⟩ | ⟨e1, e2⟩ | ⟨e1, e2⟩
    · rcases hs with rfl | rfl <;> simp only [h1, e1, m10, m11, one0, if_true, if_false, and_false]
    · rcases hs with rfl | rfl <;> simp only [h1, e1, z1, one0, if_true, if_false, and_false, and_true]
    · have e3 : ∀ x : Int32, f_X5_isSuspect_L42 K (N + 1) 8 (Int32.ofNat b) s w 1 x (layM F A L GF GA) = K 8 (Int32.ofNat b) s (w + 2) (layM F A L GF GA) := by
        intro x
        rw [f_X5_isSuspect_L42]
        unfold f_X5_isSuspect_j124
        split
        · rfl
        · simp only [lm_g13, Option.bind_some, one0, if_false]
          split <;> rfl
      rcases hs with rfl | rfl <;> simp only [h1, e1, one0, if_true, if_false, and_true, e3]
  · simp only [if_neg h1, h1, false_and, if_false]
theorem sus_down (hB : RB c nb nd bd T A F) (h12 : nd ≤ 12) {b : Nat} (hb : b < nb) (K) : ∀ (k N : Nat) (s : Int32), k ≤ nb → k + 1 < N → s = 0 ∨ s = 1 → f_X5_isSuspect_L42 K N 8 (Int32.ofNat b) s (-1) 0 (Int32.ofNat k - 1) (layM F A L GF GA) = K 8 (Int32.ofNat b) (if s = 1 then 1 else nearD A b k) (-1 + 2) (layM F A L GF GA)
  | k, 0, _, _, h, _ => absurd h (by omega)
  | k, 1, _, _, h, _ => absurd h (by omega)
  | 0, N + 2, s, _, _, hs => by
    rw [f_X5_isSuspect_L42]
    unfold f_X5_isSuspect_j124 nearD
    rw [if_pos (by decide)]
    rcases hs with rfl | rfl <;> rfl
  | k + 1, N + 2, s, hk, h, hs => by
    have := hB.1
    obtain ⟨b2, bF, bT, bt, bb⟩ := id hB
    obtain ⟨q1, q2, q3, q4, q5⟩ := bb k (by omega)
    rw [onm (by omega), sus_step hB h12 hb (by omega) K N s (-1) hs, add_m1, nearD]
    by_cases h1 : A 11 k = A 11 b
    · rcases q3 with ⟨e1, e2⟩ | ⟨e1, e2⟩ | ⟨e1, e2⟩
      · simp only [h1, e1, m10, m11, if_false, and_false, ne_eq, not_true]
        exact sus_down hB h12 hb K k (N + 1) s (by omega) (by omega) hs
      · simp only [h1, e1, z1, if_true, if_false, and_false, and_true, ne_eq, z0m, not_false_eq_true, ite_self]
        rw [sus_down hB h12 hb K k (N + 1) 1 (by omega) (by omega) (.inr rfl), if_pos rfl]
      · simp only [h1, e1, one0, if_true, and_true, if_false, ne_eq, n1m, not_false_eq_true]
        rcases hs with rfl | rfl <;> rfl
    · simp only [h1, false_and, if_false]
      exact sus_down hB h12 hb K k (N + 1) s (by omega) (by omega) hs
theorem sus_up (hB : RB c nb nd bd T A F) (h12 : nd ≤ 12) {b : Nat} (hb : b < nb) (K) : ∀ (m k N : Nat) (s : Int32), k + m = nb → m + 1 < N → s = 0 ∨ s = 1 → f_X5_isSuspect_L42 K N 8 (Int32.ofNat b) s 1 0 (Int32.ofNat k) (layM F A L GF GA) = K 8 (Int32.ofNat b) (if s = 1 then 1 else nearU A b m k) (1 + 2) (layM F A L GF GA)
  | m, k, 0, _, _, h, _ => absurd h (by omega)
  | m, k, 1, _, _, h, _ => absurd h (by omega)
  | 0, k, N + 2, s, e, _, hs => by
    obtain ⟨b2, bF, bT, bt, bb⟩ := id hB
    have hi' : ¬ k < 0 := by omega
    have hk : nb ≤ k := by omega
    rw [f_X5_isSuspect_L42]
    unfold f_X5_isSuspect_j124 nearU
    simp -implicitDefEqProofs (maxSteps := 2000000) (disch := omega) only [lm_is, lm_g0, lm_g1, lm_g2, lm_g3, lm_g4, lm_g5, lm_g6, lm_g7, lm_g8, lm_g9, lm_g10, lm_g11, lm_g12, lm_g13, lm_g14, lm_g15, lm_g16, lm_g17, lm_g18, lm_g19, lm_g20, lm_g21, lm_g22, lm_g23, lm_g24, lm_g25, lm_g26, lm_g27, lm_g28, lm_g29, lm_g30, lm_g31, lm_g32, lm_g33, lm_g34, lm_g35, lm_g36, lm_g37, lm_g38, lm_g39, lm_g40, lm_g41, lm_g42, lm_g43, lm_g44, lm_g45, lm_g46, lm_g47, lm_g48, lm_g49, lm_g50, lm_g51, lm_p1, lm_p6, lm_p12, lm_p13, lm_p22, lm_p23, lm_p29, lm_p30, lm_p31, lm_p32, lm_p33, lm_p34, lm_p35, lm_p37, lm_p41, lm_p44, lm_p45, lm_p51, y_is, y_g0, y_g1, y_p1, y_g2, y_g3, y_p3, y_g4, y_p4, y_g5, y_g6, y_g7, y_g8, y_g9, y_g10, y_p10, y_g12, y_p12, y_g13, y_g14, y_p14, y_g15, y_g16, y_p16, y_g17, y_g18, y_p18, y_g19, y_p19, y_g20, y_g21, y_g22, y_p22, y_g23, y_p23, y_g24, y_p24, y_g25, y_p25, y_g26, y_g27, y_p27, y_g11, y_r11, y12_is, y12_g0, y12_p0, y12_g1, y12_g2, y12_p2, y12_g3, y13_is, y13_g0, y13_p0, y13_g1, y13_g2, y13_p2, y13_g3, y14_is, y14_g0, y14_p0, y14_g1, y14_g2, y14_p2, y14_g3, y1_i, y1_i0, y1_i1, y1_i2, y1_i3, y1_i4, y1_i5, y11_i, y11_i0, y11_i1, y11_i2, y11_i3, y11_i4, y11_i5, y11_s, y11_s0, y11_s1, y11_s2, y11_s3, y11_s4, y11_s5, y16_i, y16_i0, y16_i1, y16_i2, y16_s, y16_s0, y16_s1, y16_s2, y17_i, y17_i0, y17_i1, y17_i2, y17_i3, y17_i4, y17_i5, y17_s, y17_s0, y17_s1, y17_s2, y17_s3, y17_s4, y17_s5, y19_i, y19_i0, y19_i1, y19_i2, y19_i3, y19_i4, y19_i5, y19_i6, y19_s, y19_s0, y19_s1, y19_s2, y19_s3, y19_s4, y19_s5, y19_s6, y20_i, y20_i0, y20_i1, y20_i2, y20_i3, y20_i4, y20_i5, y20_i6, y20_s, y20_s0, y20_s1, y20_s2, y20_s3, y20_s4, y20_s5, y20_s6, y9_a, y10_a, y15_a, y18_a, y21_a, yp_is, yp_g0, yp_p0, yp_g1, yp_p1, yp_g2, yp_p2, yp_g3, yp_p3, yp_g4, yl_is, yl_g0, yl_p0, yl_g2, yl_p2, yl_e, yl_e0, ye_a, yo_is, yo_g0, yo_p0, yo_g1, yo_p1, yd_is, yd_g0, yd_g1, yd_p1, yd_g2, yd_p2, yd_g3, yd_p3, yd_g4, yd_p4, yd_g5, yd_p5, yd_g6, yd_p6, yb_is, yb_g0, yb_g1, yb_p1, yb_g2, yb_p2, yb_g3, yb_p3, yb_g4, yb_p4, yb_g5, yb_p5, yb_g6, yb_p6, yb_g7, yb_p7, ys_is, ys_g0, ys_p0, ys_r, ys_a, yj_i, yj_i0, yj_s0, yj_i1, yj_s1, yj_i2, yj_s2, lm_n1, lm_sn1, lm_n1_0, lm_sn1_0, lm_n1_1, lm_sn1_1, lm_n1_2, lm_sn1_2, lm_n1_3, lm_sn1_3, lm_n1_4, lm_sn1_4, lm_n1_5, lm_sn1_5, lm_n2, lm_sn2, lm_n3, lm_sn3, lm_n4, lm_sn4, lm_n5, lm_sn5, lm_n6, lm_sn6, lm_n7, lm_sn7, lm_n8, lm_sn8, lm_n9, lm_sn9, lm_n10, lm_sn10, lm_n11, lm_sn11, lm_n12, lm_sn12, lm_n13, lm_sn13, lm_n14, lm_sn14, lm_n15, lm_sn15, lm_n16, lm_sn16, lm_n17, lm_sn17, lm_n18, lm_sn18, lm_n19, lm_n19_0, lm_sn19_0, lm_n19_1, lm_sn19_1, lm_n19_2, lm_sn19_2, lm_n19_3, lm_sn19_3, lm_n19_4, lm_sn19_4, lm_n19_5, lm_sn19_5, lm_n19_6, lm_sn19_6, lm_n20, lm_sn20, lm_n21, lm_sn21, lm_n22, lm_sn22, lm_n23, lm_sn23, lm_n23_0, lm_sn23_0, lm_n23_1, lm_sn23_1, lm_n23_2, lm_sn23_2, lm_n24, lm_sn24, lm_n24_0, lm_sn24_0, lm_n24_1, lm_sn24_1, lm_n24_2, lm_sn24_2, lm_n24_3, lm_sn24_3, lm_n24_4, lm_sn24_4, lm_n24_5, lm_sn24_5, lm_n25, lm_sn25, lm_n25_0, lm_sn25_0, lm_n25_1, lm_sn25_1, lm_n25_2, lm_sn25_2, lm_n25_3, lm_sn25_3, lm_n25_4, lm_sn25_4, lm_n25_5, lm_sn25_5, lm_n25_6, lm_sn25_6, lm_n26, lm_sn26, lm_n26_0, lm_sn26_0, lm_n26_1, lm_sn26_1, lm_n26_2, lm_sn26_2, lm_n26_3, lm_sn26_3, lm_n26_4, lm_sn26_4, lm_n26_5, lm_sn26_5, lm_n26_6, lm_sn26_6, lm_n27, lm_sn27, lm_n27_0, lm_sn27_0, lm_n27_1, lm_sn27_1, lm_n27_2, lm_sn27_2, lm_n27_3, lm_sn27_3, lm_n27_4, lm_sn27_4, lm_n27_5, lm_sn27_5, lm_n27_6, lm_sn27_6, lm_n28, lm_sn28, lm_n28_0, lm_sn28_0, lm_n28_1, lm_sn28_1, lm_n28_2, lm_sn28_2, lm_n28_3, lm_sn28_3, lm_n28_4, lm_sn28_4, lm_n28_5, lm_sn28_5, lm_n28_6, lm_sn28_6, lm_n29, lm_sn29, lm_n29_0, lm_sn29_0, lm_n29_1, lm_sn29_1, lm_n29_2, lm_sn29_2, lm_n29_3, lm_sn29_3, lm_n29_4, lm_sn29_4, lm_n29_5, lm_sn29_5, lm_n29_6, lm_sn29_6, lm_n30, lm_sn30, lm_n31, lm_sn31, lm_n31_0, lm_sn31_0, lm_n31_1, lm_sn31_1, lm_n31_2, lm_sn31_2, lm_n31_3, lm_sn31_3, lm_n32, lm_sn32, lm_n32_0, lm_sn32_0, lm_n32_1, lm_sn32_1, lm_n32_2, lm_sn32_2, lm_n32_3, lm_sn32_3, lm_n33, lm_sn33, lm_n34, lm_sn34, tu_at, tu_ne, tu_nk, vu_at, vu_ne, jb_some, Option.bind_some, Option.bind_none, one0, if_true, if_false, bF, on_le, on_s0, hk, hi']
    rcases hs with rfl | rfl <;> rfl
  | m + 1, k, N + 2, s, hk, h, hs => by
    have := hB.1
    obtain ⟨b2, bF, bT, bt, bb⟩ := id hB
    obtain ⟨q1, q2, q3, q4, q5⟩ := bb k (by omega)
    rw [sus_step hB h12 hb (by omega) K N s 1 hs, on1 (by omega), nearU]
    by_cases h1 : A 11 k = A 11 b
    · rcases q3 with ⟨e1, e2⟩ | ⟨e1, e2⟩ | ⟨e1, e2⟩
      · simp only [h1, e1, m10, m11, if_false, and_false, ne_eq, not_true]
        exact sus_up hB h12 hb K m (k + 1) (N + 1) s (by omega) (by omega) hs
      · simp only [h1, e1, z1, if_true, if_false, and_false, and_true, ne_eq, z0m, not_false_eq_true, ite_self]
        rw [sus_up hB h12 hb K m (k + 1) (N + 1) 1 (by omega) (by omega) (.inr rfl), if_pos rfl]
      · simp only [h1, e1, one0, if_true, and_true, if_false, ne_eq, n1m, not_false_eq_true]
        rcases hs with rfl | rfl <;> rfl
    · simp only [h1, false_and, if_false]
      exact sus_up hB h12 hb K m (k + 1) (N + 1) s (by omega) (by omega) hs
theorem sus_all (hB : RB c nb nd bd T A F) (h12 : nd ≤ 12) {b : Nat} (hb : b < nb) (N : Nat) (s : Int32) (hs : s = 0 ∨ s = 1) : f_X5_isSuspect_L29 (N + 3) 8 (Int32.ofNat b) s (-1) (layM F A L GF GA) = some (if s = 1 then 1 else if nearD A b b = 1 then 1 else nearU A b (nb - (b + 1)) (b + 1), (layM F A L GF GA)) := by
    have b2 := hB.1
    rw [f_X5_isSuspect_L29, if_neg (by decide), add_m1, sus_down hB h12 hb _ b 300 s (by omega) (by omega) hs]
    have hz : (if s = 1 then 1 else nearD A b b) = 0 ∨ (if s = 1 then 1 else nearD A b b) = (1 : Int32) := by
      split
      · exact .inr rfl
      · exact nearD_01 A b b
    show f_X5_isSuspect_L29 (N + 2) 8 (Int32.ofNat b) (if s = 1 then 1 else nearD A b b) 1 (layM F A L GF GA) = _
    rw [f_X5_isSuspect_L29, if_neg (by decide), on1 (by omega), sus_up hB h12 hb _ (nb - (b + 1)) (b + 1) 300 _ (by omega) (by omega) hz]
    show f_X5_isSuspect_L29 (N + 1) 8 (Int32.ofNat b) _ 3 (layM F A L GF GA) = _
    rw [f_X5_isSuspect_L29, if_pos (by decide)]
    rcases hs with rfl | rfl
    · simp only [z1, if_false]
      rw [if_neg]
      intro h
      apply h
      split
      · exact .inr rfl
      · exact nearU_01 A b _ _
    · simp only [if_true]
      rw [if_neg (by decide)]
end LK
