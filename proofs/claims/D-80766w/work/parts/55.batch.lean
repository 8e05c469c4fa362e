/-! batches -/
set_option maxRecDepth 100000
def cnt : Nat → (Nat → Bool) → Nat
  | 0, _ => 0
  | n + 1, f => cnt n f + (if f n = true then 1 else 0)
theorem cnt_le {f g : Nat → Bool} : ∀ n, (∀ i, i < n → g i = true → f i = true) → cnt n g ≤ cnt n f
  | 0, _ => Nat.le_refl _
  | n + 1, h => by
    unfold cnt
    have h1 := cnt_le n (fun i hi => h i (by omega))
    by_cases hg : g n = true
    · rw [if_pos hg, if_pos (h n (by omega) hg)]; omega
    · rw [if_neg hg]; omega
theorem cnt_lt {f g : Nat → Bool} : ∀ n, (∀ i, i < n → g i = true → f i = true) → (∃ i, i < n ∧ f i = true ∧ g i = false) → cnt n g < cnt n f
  | 0, _, ⟨i, h, _⟩ => absurd h (Nat.not_lt_zero i)
  | n + 1, h, ⟨i, hi, h1, h2⟩ => by
    unfold cnt
    by_cases e : i = n
    · subst e
      have := cnt_le i (fun j hj => h j (by omega))
      rw [if_pos h1, if_neg (by rw [h2]; decide)]
      omega
    · have := cnt_lt n (fun j hj => h j (by omega)) ⟨i, by omega, h1, h2⟩
      by_cases hg : g n = true
      · rw [if_pos hg, if_pos (h n (by omega) hg)]; omega
      · rw [if_neg hg]; omega
theorem cnt_n (f : Nat → Bool) : ∀ n, cnt n f ≤ n
  | 0 => Nat.le_refl _
  | n + 1 => by
    unfold cnt
    have := cnt_n f n
    split <;> omega
section BT
variable {c c' np nd nb na ns nj : Nat} {no dp bd jp : Nat → Nat} {ld : Option Nat} {rw : Nat → Option Nat} {rk : Nat → Nat × Nat} {T T' A A' : Nat → Nat → Int32} {F F' GF : Nat → Int32} {L : Nat → Int64} {GA : Nat → Nat → Int32}
/-- the bars are given back -/
theorem back_L (h2 : nb ≤ 200) (x : Int32) : ∀ (m k N : Nat) (T : Nat → Nat → Int32), T 8 10 = Int32.ofNat nb → k + m = nb → m < N → ∃ T' : Nat → Nat → Int32, f_X0_batches_L23 N 8 x (Int32.ofNat k) (lay (kX np nd nb no rk) T (rX np nd nb no dp bd ld rw)) = some (x, lay (kX np nd nb no rk) T' (rX np nd nb no dp bd ld rw)) ∧ (∀ n j, ¬ (j = 6 ∧ 1000 + k ≤ n ∧ n < 1000 + nb) → T' n j = T n j) ∧ (∀ i, k ≤ i → i < nb → T' (1000 + i) 6 = if T (1000 + i) 6 < T 8 25 then T (1000 + i) 6 else -1)
  | m, k, 0, _, _, _, h => absurd h (Nat.not_lt_zero m)
  | 0, k, N + 1, T, hT, e, _ => by
    have hk : nb ≤ k := by omega
    unfold f_X0_batches_L23
    simp -implicitDefEqProofs (maxSteps := 2000000) (disch := omega) only [lm_is, lm_g0, lm_g1, lm_g2, lm_g3, lm_g4, lm_g5, lm_g6, lm_g7, lm_g8, lm_g9, lm_g10, lm_g11, lm_g12, lm_g13, lm_g14, lm_g15, lm_g16, lm_g17, lm_g18, lm_g19, lm_g20, lm_g21, lm_g22, lm_g23, lm_g24, lm_g25, lm_g26, lm_g27, lm_g28, lm_g29, lm_g30, lm_g31, lm_g32, lm_g33, lm_g34, lm_g35, lm_g36, lm_g37, lm_g38, lm_g39, lm_g40, lm_g41, lm_g42, lm_g43, lm_g44, lm_g45, lm_g46, lm_g47, lm_g48, lm_g49, lm_g50, lm_g51, lm_p1, lm_p6, lm_p12, lm_p13, lm_p22, lm_p23, lm_p29, lm_p30, lm_p31, lm_p32, lm_p33, lm_p34, lm_p35, lm_p37, lm_p41, lm_p44, lm_p45, lm_p51, y_is, y_g0, y_g1, y_p1, y_g2, y_g3, y_p3, y_g4, y_p4, y_g5, y_g6, y_g7, y_g8, y_g9, y_g10, y_p10, y_g12, y_p12, y_g13, y_g14, y_p14, y_g15, y_g16, y_p16, y_g17, y_g18, y_p18, y_g19, y_p19, y_g20, y_g21, y_g22, y_p22, y_g23, y_p23, y_g24, y_p24, y_g25, y_p25, y_g26, y_g27, y_p27, y_g11, y_r11, y12_is, y12_g0, y12_p0, y12_g1, y12_g2, y12_p2, y12_g3, y13_is, y13_g0, y13_p0, y13_g1, y13_g2, y13_p2, y13_g3, y14_is, y14_g0, y14_p0, y14_g1, y14_g2, y14_p2, y14_g3, y1_i, y1_i0, y1_i1, y1_i2, y1_i3, y1_i4, y1_i5, y11_i, y11_i0, y11_i1, y11_i2, y11_i3, y11_i4, y11_i5, y11_s, y11_s0, y11_s1, y11_s2, y11_s3, y11_s4, y11_s5, y16_i, y16_i0, y16_i1, y16_i2, y16_s, y16_s0, y16_s1, y16_s2, y17_i, y17_i0, y17_i1, y17_i2, y17_i3, y17_i4, y17_i5, y17_s, y17_s0, y17_s1, y17_s2, y17_s3, y17_s4, y17_s5, y19_i, y19_i0, y19_i1, y19_i2, y19_i3, y19_i4, y19_i5, y19_i6, y19_s, y19_s0, y19_s1, y19_s2, y19_s3, y19_s4, y19_s5, y19_s6, y20_i, y20_i0, y20_i1, y20_i2, y20_i3, y20_i4, y20_i5, y20_i6, y20_s, y20_s0, y20_s1, y20_s2, y20_s3, y20_s4, y20_s5, y20_s6, y9_a, y10_a, y15_a, y18_a, y21_a, yp_is, yp_g0, yp_p0, yp_g1, yp_p1, yp_g2, yp_p2, yp_g3, yp_p3, yp_g4, yl_is, yl_g0, yl_p0, yl_g2, yl_p2, yl_e, yl_e0, ye_a, yo_is, yo_g0, yo_p0, yo_g1, yo_p1, yd_is, yd_g0, yd_g1, yd_p1, yd_g2, yd_p2, yd_g3, yd_p3, yd_g4, yd_p4, yd_g5, yd_p5, yd_g6, yd_p6, yb_is, yb_g0, yb_g1, yb_p1, yb_g2, yb_p2, yb_g3, yb_p3, yb_g4, yb_p4, yb_g5, yb_p5, yb_g6, yb_p6, yb_g7, yb_p7, ys_is, ys_g0, ys_p0, ys_r, ys_a, yj_i, yj_i0, yj_s0, yj_i1, yj_s1, yj_i2, yj_s2, lm_n1, lm_sn1, lm_n1_0, lm_sn1_0, lm_n1_1, lm_sn1_1, lm_n1_2, lm_sn1_2, lm_n1_3, lm_sn1_3, lm_n1_4, lm_sn1_4, lm_n1_5, lm_sn1_5, lm_n2, lm_sn2, lm_n3, lm_sn3, lm_n4, lm_sn4, lm_n5, lm_sn5, lm_n6, lm_sn6, lm_n7, lm_sn7, lm_n8, lm_sn8, lm_n9, lm_sn9, lm_n10, lm_sn10, lm_n11, lm_sn11, lm_n12, lm_sn12, lm_n13, lm_sn13, lm_n14, lm_sn14, lm_n15, lm_sn15, lm_n16, lm_sn16, lm_n17, lm_sn17, lm_n18, lm_sn18, lm_n19, lm_n19_0, lm_sn19_0, lm_n19_1, lm_sn19_1, lm_n19_2, lm_sn19_2, lm_n19_3, lm_sn19_3, lm_n19_4, lm_sn19_4, lm_n19_5, lm_sn19_5, lm_n19_6, lm_sn19_6, lm_n20, lm_sn20, lm_n21, lm_sn21, lm_n22, lm_sn22, lm_n23, lm_sn23, lm_n23_0, lm_sn23_0, lm_n23_1, lm_sn23_1, lm_n23_2, lm_sn23_2, lm_n24, lm_sn24, lm_n24_0, lm_sn24_0, lm_n24_1, lm_sn24_1, lm_n24_2, lm_sn24_2, lm_n24_3, lm_sn24_3, lm_n24_4, lm_sn24_4, lm_n24_5, lm_sn24_5, lm_n25, lm_sn25, lm_n25_0, lm_sn25_0, lm_n25_1, lm_sn25_1, lm_n25_2, lm_sn25_2, lm_n25_3, lm_sn25_3, lm_n25_4, lm_sn25_4, lm_n25_5, lm_sn25_5, lm_n25_6, lm_sn25_6, lm_n26, lm_sn26, lm_n26_0, lm_sn26_0, lm_n26_1, lm_sn26_1, lm_n26_2, lm_sn26_2, lm_n26_3, lm_sn26_3, lm_n26_4, lm_sn26_4, lm_n26_5, lm_sn26_5, lm_n26_6, lm_sn26_6, lm_n27, lm_sn27, lm_n27_0, lm_sn27_0, lm_n27_1, lm_sn27_1, lm_n27_2, lm_sn27_2, lm_n27_3, lm_sn27_3, lm_n27_4, lm_sn27_4, lm_n27_5, lm_sn27_5, lm_n27_6, lm_sn27_6, lm_n28, lm_sn28, lm_n28_0, lm_sn28_0, lm_n28_1, lm_sn28_1, lm_n28_2, lm_sn28_2, lm_n28_3, lm_sn28_3, lm_n28_4, lm_sn28_4, lm_n28_5, lm_sn28_5, lm_n28_6, lm_sn28_6, lm_n29, lm_sn29, lm_n29_0, lm_sn29_0, lm_n29_1, lm_sn29_1, lm_n29_2, lm_sn29_2, lm_n29_3, lm_sn29_3, lm_n29_4, lm_sn29_4, lm_n29_5, lm_sn29_5, lm_n29_6, lm_sn29_6, lm_n30, lm_sn30, lm_n31, lm_sn31, lm_n31_0, lm_sn31_0, lm_n31_1, lm_sn31_1, lm_n31_2, lm_sn31_2, lm_n31_3, lm_sn31_3, lm_n32, lm_sn32, lm_n32_0, lm_sn32_0, lm_n32_1, lm_sn32_1, lm_n32_2, lm_sn32_2, lm_n32_3, lm_sn32_3, lm_n33, lm_sn33, lm_n34, lm_sn34, tu_at, tu_ne, tu_nk, vu_at, vu_ne, jb_some, Option.bind_some, Option.bind_none, one0, if_true, if_false, hT, on_le, hk]
    exact ⟨T, rfl, fun _ _ _ => rfl, fun i a b => absurd a (by omega)⟩
  | m + 1, k, N + 1, T, hT, e, h => by
    have hk : ¬ nb ≤ k := by omega
    have hI := fun v => back_L h2 x m (k + 1) N (tu T (1000 + k) 6 v) (by rw [tu_ne _ _ _ (by omega)]; exact hT) (by omega) (by omega)
    unfold f_X0_batches_L23 f_X0_batches_j66
    simp -implicitDefEqProofs (maxSteps := 2000000) (disch := omega) only [lm_is, lm_g0, lm_g1, lm_g2, lm_g3, lm_g4, lm_g5, lm_g6, lm_g7, lm_g8, lm_g9, lm_g10, lm_g11, lm_g12, lm_g13, lm_g14, lm_g15, lm_g16, lm_g17, lm_g18, lm_g19, lm_g20, lm_g21, lm_g22, lm_g23, lm_g24, lm_g25, lm_g26, lm_g27, lm_g28, lm_g29, lm_g30, lm_g31, lm_g32, lm_g33, lm_g34, lm_g35, lm_g36, lm_g37, lm_g38, lm_g39, lm_g40, lm_g41, lm_g42, lm_g43, lm_g44, lm_g45, lm_g46, lm_g47, lm_g48, lm_g49, lm_g50, lm_g51, lm_p1, lm_p6, lm_p12, lm_p13, lm_p22, lm_p23, lm_p29, lm_p30, lm_p31, lm_p32, lm_p33, lm_p34, lm_p35, lm_p37, lm_p41, lm_p44, lm_p45, lm_p51, y_is, y_g0, y_g1, y_p1, y_g2, y_g3, y_p3, y_g4, y_p4, y_g5, y_g6, y_g7, y_g8, y_g9, y_g10, y_p10, y_g12, y_p12, y_g13, y_g14, y_p14, y_g15, y_g16, y_p16, y_g17, y_g18, y_p18, y_g19, y_p19, y_g20, y_g21, y_g22, y_p22, y_g23, y_p23, y_g24, y_p24, y_g25, y_p25, y_g26, y_g27, y_p27, y_g11, y_r11, y12_is, y12_g0, y12_p0, y12_g1, y12_g2, y12_p2, y12_g3, y13_is, y13_g0, y13_p0, y13_g1, y13_g2, y13_p2, y13_g3, y14_is, y14_g0, y14_p0, y14_g1, y14_g2, y14_p2, y14_g3, y1_i, y1_i0, y1_i1, y1_i2, y1_i3, y1_i4, y1_i5, y11_i, y11_i0, y11_i1, y11_i2, y11_i3, y11_i4, y11_i5, y11_s, y11_s0, y11_s1, y11_s2, y11_s3, y11_s4, y11_s5, y16_i, y16_i0, y16_i1, y16_i2, y16_s, y16_s0, y16_s1, y16_s2, y17_i, y17_i0, y17_i1, y17_i2, y17_i3, y17_i4, y17_i5, y17_s, y17_s0, y17_s1, y17_s2, y17_s3, y17_s4, y17_s5, y19_i, y19_i0, y19_i1, y19_i2, y19_i3, y19_i4, y19_i5, y19_i6, y19_s, y19_s0, y19_s1, y19_s2, y19_s3, y19_s4, y19_s5, y19_s6, y20_i, y20_i0, y20_i1, y20_i2, y20_i3, y20_i4, y20_i5, y20_i6, y20_s, y20_s0, y20_s1, y20_s2, y20_s3, y20_s4, y20_s5, y20_s6, y9_a, y10_a, y15_a, y18_a, y21_a, yp_is, yp_g0, yp_p0, yp_g1, yp_p1, yp_g2, yp_p2, yp_g3, yp_p3, yp_g4, yl_is, yl_g0, yl_p0, yl_g2, yl_p2, yl_e, yl_e0, ye_a, yo_is, yo_g0, yo_p0, yo_g1, yo_p1, yd_is, yd_g0, yd_g1, yd_p1, yd_g2, yd_p2, yd_g3, yd_p3, yd_g4, yd_p4, yd_g5, yd_p5, yd_g6, yd_p6, yb_is, yb_g0, yb_g1, yb_p1, yb_g2, yb_p2, yb_g3, yb_p3, yb_g4, yb_p4, yb_g5, yb_p5, yb_g6, yb_p6, yb_g7, yb_p7, ys_is, ys_g0, ys_p0, ys_r, ys_a, yj_i, yj_i0, yj_s0, yj_i1, yj_s1, yj_i2, yj_s2, lm_n1, lm_sn1, lm_n1_0, lm_sn1_0, lm_n1_1, lm_sn1_1, lm_n1_2, lm_sn1_2, lm_n1_3, lm_sn1_3, lm_n1_4, lm_sn1_4, lm_n1_5, lm_sn1_5, lm_n2, lm_sn2, lm_n3, lm_sn3, lm_n4, lm_sn4, lm_n5, lm_sn5, lm_n6, lm_sn6, lm_n7, lm_sn7, lm_n8, lm_sn8, lm_n9, lm_sn9, lm_n10, lm_sn10, lm_n11, lm_sn11, lm_n12, lm_sn12, lm_n13, lm_sn13, lm_n14, lm_sn14, lm_n15, lm_sn15, lm_n16, lm_sn16, lm_n17, lm_sn17, lm_n18, lm_sn18, lm_n19, lm_n19_0, lm_sn19_0, lm_n19_1, lm_sn19_1, lm_n19_2, lm_sn19_2, lm_n19_3, lm_sn19_3, lm_n19_4, lm_sn19_4, lm_n19_5, lm_sn19_5, lm_n19_6, lm_sn19_6, lm_n20, lm_sn20, lm_n21, lm_sn21, lm_n22, lm_sn22, lm_n23, lm_sn23, lm_n23_0, lm_sn23_0, lm_n23_1, lm_sn23_1, lm_n23_2, lm_sn23_2, lm_n24, lm_sn24, lm_n24_0, lm_sn24_0, lm_n24_1, lm_sn24_1, lm_n24_2, lm_sn24_2, lm_n24_3, lm_sn24_3, lm_n24_4, lm_sn24_4, lm_n24_5, lm_sn24_5, lm_n25, lm_sn25, lm_n25_0, lm_sn25_0, lm_n25_1, lm_sn25_1, lm_n25_2, lm_sn25_2, lm_n25_3, lm_sn25_3, lm_n25_4, lm_sn25_4, lm_n25_5, lm_sn25_5, lm_n25_6, lm_sn25_6, lm_n26, lm_sn26, lm_n26_0, lm_sn26_0, lm_n26_1, lm_sn26_1, lm_n26_2, lm_sn26_2, lm_n26_3, lm_sn26_3, lm_n26_4, lm_sn26_4, lm_n26_5, lm_sn26_5, lm_n26_6, lm_sn26_6, lm_n27, lm_sn27, lm_n27_0, lm_sn27_0, lm_n27_1, lm_sn27_1, lm_n27_2, lm_sn27_2, lm_n27_3, lm_sn27_3, lm_n27_4, lm_sn27_4, lm_n27_5, lm_sn27_5, lm_n27_6, lm_sn27_6, lm_n28, lm_sn28, lm_n28_0, lm_sn28_0, lm_n28_1, lm_sn28_1, lm_n28_2, lm_sn28_2, lm_n28_3, lm_sn28_3, lm_n28_4, lm_sn28_4, lm_n28_5, lm_sn28_5, lm_n28_6, lm_sn28_6, lm_n29, lm_sn29, lm_n29_0, lm_sn29_0, lm_n29_1, lm_sn29_1, lm_n29_2, lm_sn29_2, lm_n29_3, lm_sn29_3, lm_n29_4, lm_sn29_4, lm_n29_5, lm_sn29_5, lm_n29_6, lm_sn29_6, lm_n30, lm_sn30, lm_n31, lm_sn31, lm_n31_0, lm_sn31_0, lm_n31_1, lm_sn31_1, lm_n31_2, lm_sn31_2, lm_n31_3, lm_sn31_3, lm_n32, lm_sn32, lm_n32_0, lm_sn32_0, lm_n32_1, lm_sn32_1, lm_n32_2, lm_sn32_2, lm_n32_3, lm_sn32_3, lm_n33, lm_sn33, lm_n34, lm_sn34, tu_at, tu_ne, tu_nk, vu_at, vu_ne, jb_some, Option.bind_some, Option.bind_none, one0, if_true, if_false, hT, on_le, hk, on1]
    obtain ⟨T', a1, a2, a3⟩ := hI (if T (1000 + k) 6 < T 8 25 then T (1000 + k) 6 else -1)
    refine ⟨T', ?_, fun n j hj => ?_, fun i i1 i2 => ?_⟩
    · by_cases g : T (1000 + k) 6 < T 8 25
      · simp only [g, if_true] at a1 ⊢
        exact a1
      · simp only [g, if_false] at a1 ⊢
        exact a1
    · rw [a2 n j (by omega)]
      unfold tu
      rw [if_neg (by omega)]
    · by_cases ei : i = k
      · subst ei
        rw [a2 (1000 + i) 6 (by omega), tu_at]
      · rw [a3 i (by omega) i2, tu_ne _ _ _ (by omega), tu_ne _ _ _ (by omega)]
/-- batch after batch -/
theorem bat_L (hF : 0 ≤ (F 45).toInt ∧ (F 45).toInt ≤ 64) (h2 : nb ≤ 200) (hT : T 8 25 = F 45) (hTb : T 8 10 = Int32.ofNat nb) (h0 : ∀ i, i < nb → T (1000 + i) 6 = -1 ∨ (T (1000 + i) 6).toInt < (F 45).toInt) : ∀ (q N n : Nat) (S G : Nat → Nat → Int32), WB nb nd np dp bd S A F G → (∀ a j, S a j = T a j ∨ (1000 ≤ a ∧ a < 1000 + nb ∧ j = 6 ∧ T a j = -1 ∧ (F 45).toInt ≤ (S a j).toInt)) → cnt nb (fun i => decide (S (1000 + i) 6 = -1)) ≤ q → n + q ≤ 250 → q < N → ∃ (r : Int32) (G' : Nat → Nat → Int32), f_X0_batches_L2 N 8 (Int32.ofNat n) (lay (kX np nd nb no rk) S (rX np nd nb no dp bd ld rw)) = some (r, (lay (kX np nd nb no rk) T (rX np nd nb no dp bd ld rw))) ∧ f_X5_batches_L6 N 8 (Int32.ofNat n) (layM F A L GF G) = some (r, layM F A L GF G')
  | q, 0, _, _, _, _, _, _, _, h => absurd h (Nat.not_lt_zero q)
  | q, N + 1, n, S, G, hW, hS, hc, hn, hN => by
    have e8 : S 8 25 = F 45 := by rcases hS 8 25 with h | h; rw [h, hT]; omega
    have e9 : S 8 10 = Int32.ofNat nb := by rcases hS 8 10 with h | h; rw [h, hTb]; omega
    have ev := add32 (a := F 45) (b := Int32.ofNat n) (by rw [oi (by omega)]; omega) (by rw [oi (by omega)]; omega)
    rw [oi (by omega)] at ev
    have hv : F 45 + Int32.ofNat n ≠ -1 := by
      intro e
      rw [e, m1i] at ev
      omega
    obtain ⟨r, tk, r1, r2, r3, r4, r5, r6⟩ := fill_eq (np := np) (nd := nd) (no := no) (dp := dp) (ld := ld) (rw := rw) (rk := rk) (L := L) (GF := GF) hv hW
    unfold f_X0_batches_L2 f_X5_batches_L6
    simp -implicitDefEqProofs (maxSteps := 2000000) (disch := omega) only [lm_is, lm_g0, lm_g1, lm_g2, lm_g3, lm_g4, lm_g5, lm_g6, lm_g7, lm_g8, lm_g9, lm_g10, lm_g11, lm_g12, lm_g13, lm_g14, lm_g15, lm_g16, lm_g17, lm_g18, lm_g19, lm_g20, lm_g21, lm_g22, lm_g23, lm_g24, lm_g25, lm_g26, lm_g27, lm_g28, lm_g29, lm_g30, lm_g31, lm_g32, lm_g33, lm_g34, lm_g35, lm_g36, lm_g37, lm_g38, lm_g39, lm_g40, lm_g41, lm_g42, lm_g43, lm_g44, lm_g45, lm_g46, lm_g47, lm_g48, lm_g49, lm_g50, lm_g51, lm_p1, lm_p6, lm_p12, lm_p13, lm_p22, lm_p23, lm_p29, lm_p30, lm_p31, lm_p32, lm_p33, lm_p34, lm_p35, lm_p37, lm_p41, lm_p44, lm_p45, lm_p51, y_is, y_g0, y_g1, y_p1, y_g2, y_g3, y_p3, y_g4, y_p4, y_g5, y_g6, y_g7, y_g8, y_g9, y_g10, y_p10, y_g12, y_p12, y_g13, y_g14, y_p14, y_g15, y_g16, y_p16, y_g17, y_g18, y_p18, y_g19, y_p19, y_g20, y_g21, y_g22, y_p22, y_g23, y_p23, y_g24, y_p24, y_g25, y_p25, y_g26, y_g27, y_p27, y_g11, y_r11, y12_is, y12_g0, y12_p0, y12_g1, y12_g2, y12_p2, y12_g3, y13_is, y13_g0, y13_p0, y13_g1, y13_g2, y13_p2, y13_g3, y14_is, y14_g0, y14_p0, y14_g1, y14_g2, y14_p2, y14_g3, y1_i, y1_i0, y1_i1, y1_i2, y1_i3, y1_i4, y1_i5, y11_i, y11_i0, y11_i1, y11_i2, y11_i3, y11_i4, y11_i5, y11_s, y11_s0, y11_s1, y11_s2, y11_s3, y11_s4, y11_s5, y16_i, y16_i0, y16_i1, y16_i2, y16_s, y16_s0, y16_s1, y16_s2, y17_i, y17_i0, y17_i1, y17_i2, y17_i3, y17_i4, y17_i5, y17_s, y17_s0, y17_s1, y17_s2, y17_s3, y17_s4, y17_s5, y19_i, y19_i0, y19_i1, y19_i2, y19_i3, y19_i4, y19_i5, y19_i6, y19_s, y19_s0, y19_s1, y19_s2, y19_s3, y19_s4, y19_s5, y19_s6, y20_i, y20_i0, y20_i1, y20_i2, y20_i3, y20_i4, y20_i5, y20_i6, y20_s, y20_s0, y20_s1, y20_s2, y20_s3, y20_s4, y20_s5, y20_s6, y9_a, y10_a, y15_a, y18_a, y21_a, yp_is, yp_g0, yp_p0, yp_g1, yp_p1, yp_g2, yp_p2, yp_g3, yp_p3, yp_g4, yl_is, yl_g0, yl_p0, yl_g2, yl_p2, yl_e, yl_e0, ye_a, yo_is, yo_g0, yo_p0, yo_g1, yo_p1, yd_is, yd_g0, yd_g1, yd_p1, yd_g2, yd_p2, yd_g3, yd_p3, yd_g4, yd_p4, yd_g5, yd_p5, yd_g6, yd_p6, yb_is, yb_g0, yb_g1, yb_p1, yb_g2, yb_p2, yb_g3, yb_p3, yb_g4, yb_p4, yb_g5, yb_p5, yb_g6, yb_p6, yb_g7, yb_p7, ys_is, ys_g0, ys_p0, ys_r, ys_a, yj_i, yj_i0, yj_s0, yj_i1, yj_s1, yj_i2, yj_s2, lm_n1, lm_sn1, lm_n1_0, lm_sn1_0, lm_n1_1, lm_sn1_1, lm_n1_2, lm_sn1_2, lm_n1_3, lm_sn1_3, lm_n1_4, lm_sn1_4, lm_n1_5, lm_sn1_5, lm_n2, lm_sn2, lm_n3, lm_sn3, lm_n4, lm_sn4, lm_n5, lm_sn5, lm_n6, lm_sn6, lm_n7, lm_sn7, lm_n8, lm_sn8, lm_n9, lm_sn9, lm_n10, lm_sn10, lm_n11, lm_sn11, lm_n12, lm_sn12, lm_n13, lm_sn13, lm_n14, lm_sn14, lm_n15, lm_sn15, lm_n16, lm_sn16, lm_n17, lm_sn17, lm_n18, lm_sn18, lm_n19, lm_n19_0, lm_sn19_0, lm_n19_1, lm_sn19_1, lm_n19_2, lm_sn19_2, lm_n19_3, lm_sn19_3, lm_n19_4, lm_sn19_4, lm_n19_5, lm_sn19_5, lm_n19_6, lm_sn19_6, lm_n20, lm_sn20, lm_n21, lm_sn21, lm_n22, lm_sn22, lm_n23, lm_sn23, lm_n23_0, lm_sn23_0, lm_n23_1, lm_sn23_1, lm_n23_2, lm_sn23_2, lm_n24, lm_sn24, lm_n24_0, lm_sn24_0, lm_n24_1, lm_sn24_1, lm_n24_2, lm_sn24_2, lm_n24_3, lm_sn24_3, lm_n24_4, lm_sn24_4, lm_n24_5, lm_sn24_5, lm_n25, lm_sn25, lm_n25_0, lm_sn25_0, lm_n25_1, lm_sn25_1, lm_n25_2, lm_sn25_2, lm_n25_3, lm_sn25_3, lm_n25_4, lm_sn25_4, lm_n25_5, lm_sn25_5, lm_n25_6, lm_sn25_6, lm_n26, lm_sn26, lm_n26_0, lm_sn26_0, lm_n26_1, lm_sn26_1, lm_n26_2, lm_sn26_2, lm_n26_3, lm_sn26_3, lm_n26_4, lm_sn26_4, lm_n26_5, lm_sn26_5, lm_n26_6, lm_sn26_6, lm_n27, lm_sn27, lm_n27_0, lm_sn27_0, lm_n27_1, lm_sn27_1, lm_n27_2, lm_sn27_2, lm_n27_3, lm_sn27_3, lm_n27_4, lm_sn27_4, lm_n27_5, lm_sn27_5, lm_n27_6, lm_sn27_6, lm_n28, lm_sn28, lm_n28_0, lm_sn28_0, lm_n28_1, lm_sn28_1, lm_n28_2, lm_sn28_2, lm_n28_3, lm_sn28_3, lm_n28_4, lm_sn28_4, lm_n28_5, lm_sn28_5, lm_n28_6, lm_sn28_6, lm_n29, lm_sn29, lm_n29_0, lm_sn29_0, lm_n29_1, lm_sn29_1, lm_n29_2, lm_sn29_2, lm_n29_3, lm_sn29_3, lm_n29_4, lm_sn29_4, lm_n29_5, lm_sn29_5, lm_n29_6, lm_sn29_6, lm_n30, lm_sn30, lm_n31, lm_sn31, lm_n31_0, lm_sn31_0, lm_n31_1, lm_sn31_1, lm_n31_2, lm_sn31_2, lm_n31_3, lm_sn31_3, lm_n32, lm_sn32, lm_n32_0, lm_sn32_0, lm_n32_1, lm_sn32_1, lm_n32_2, lm_sn32_2, lm_n32_3, lm_sn32_3, lm_n33, lm_sn33, lm_n34, lm_sn34, tu_at, tu_ne, tu_nk, vu_at, vu_ne, jb_some, Option.bind_some, Option.bind_none, one0, if_true, if_false, e8, r2, r3, on_z, on1]
    by_cases hr : r = 0
    · have hr' : r ≤ 0 := by omega
      simp only [hr', if_true, r5 hr, fT_none, gG_none]
      obtain ⟨T', a1, a2, a3⟩ := back_L (np := np) (nd := nd) (no := no) (dp := dp) (bd := bd) (ld := ld) (rw := rw) (rk := rk) h2 (Int32.ofNat n) nb 0 300 S e9 (by omega) (by omega)
      have eT : T' = T := by
        funext a j
        by_cases g : j = 6 ∧ 1000 ≤ a ∧ a < 1000 + nb
        · obtain ⟨rfl, g1, g2⟩ := g
          obtain ⟨i, rfl⟩ : ∃ i, a = 1000 + i := ⟨a - 1000, by omega⟩
          rw [a3 i (by omega) (by omega), e8]
          rcases hS (1000 + i) 6 with h | ⟨_, _, _, h1, h3⟩
          · rw [h]
            rcases h0 i (by omega) with h4 | h4
            · rw [h4, ite_self]
            · rw [if_pos (Int32.lt_iff_toInt_lt.mpr h4)]
          · rw [if_neg (by rw [Int32.lt_iff_toInt_lt]; omega), h1]
        · rw [a2 a j (by omega)]
          rcases hS a j with h | h
          · exact h
          · omega
      rw [eT] at a1
      exact ⟨_, G, a1, rfl⟩
    · have hr' : ¬ r ≤ 0 := by omega
      simp only [hr', if_false]
      obtain ⟨i, hi, hti⟩ := r6 hr
      have hf6 : ∀ j, fT S (F 45 + Int32.ofNat n) tk (1000 + j) 6 = if tk j = true then F 45 + Int32.ofNat n else S (1000 + j) 6 := by
        intro j
        unfold fT
        rw [Nat.add_sub_cancel_left]
        by_cases hk : tk j = true
        · rw [if_pos ⟨rfl, by omega, hk⟩, if_pos hk]
        · rw [if_neg (fun h => hk h.2.2), if_neg hk]
      have hlt : cnt nb (fun j => decide (fT S (F 45 + Int32.ofNat n) tk (1000 + j) 6 = -1)) < cnt nb (fun j => decide (S (1000 + j) 6 = -1)) := by
        apply cnt_lt
        · intro j hj h
          simp only [decide_eq_true_eq] at h ⊢
          rw [hf6] at h
          by_cases hk : tk j = true
          · rw [if_pos hk] at h; exact absurd h hv
          · rw [if_neg hk] at h; exact h
        · refine ⟨i, hi, ?_, ?_⟩
          · simp only [decide_eq_true_eq]; exact (r4 i hti).2
          · simp only [decide_eq_false_iff_not]
            rw [hf6, if_pos hti]
            exact hv
      cases q with
      | zero => omega
      | succ q =>
        refine bat_L hF h2 hT hTb h0 q N (n + 1) (fT S (F 45 + Int32.ofNat n) tk) (gG G tk) (WB_fT hW hv) ?_ (by omega) (by omega) (by omega)
        intro a j
        by_cases g : j = 6 ∧ 1000 ≤ a ∧ tk (a - 1000) = true
        · obtain ⟨rfl, g1, g2⟩ := g
          obtain ⟨b, rfl⟩ : ∃ b, a = 1000 + b := ⟨a - 1000, by omega⟩
          rw [Nat.add_sub_cancel_left] at g2
          have hb := r4 b g2
          refine .inr ⟨g1, by omega, rfl, ?_, by rw [hf6, if_pos g2]; omega⟩
          rcases hS (1000 + b) 6 with h | ⟨_, _, _, h1, h3⟩
          · rw [← h]; exact hb.2
          · exact h1
        · have : fT S (F 45 + Int32.ofNat n) tk a j = S a j := by unfold fT; rw [if_neg g]
          rw [this]
          exact hS a j
end BT
theorem law_batches : alike (f_X0_batches 8) (f_X5_batches 8) := by
  refine alike_mk fun c np nd nb ns nj no dp bd jp ld rw rk T A F L GF GA hc hR => ?_
  obtain ⟨hP, hD, hB, hA, hL, hT, hK, hJ, hO, hS⟩ := id hR
  obtain ⟨b2, bF, bT, ⟨bt1, bt2, bt3⟩, bb⟩ := id hB
  obtain ⟨G, g1, g2⟩ := gone_eq (F := F) (A := A) (L := L) (GF := GF) (GA := GA)
  have hW := WB_of hP hD hB hO g2
  have hn := cnt_n (fun i => decide (T (1000 + i) 6 = -1)) nb
  obtain ⟨r, G', h1, h2⟩ := bat_L (np := np) (nd := nd) (no := no) (dp := dp) (bd := bd) (ld := ld) (rw := rw) (rk := rk) (L := L) (GF := GF) ⟨bt2, by omega⟩ b2 bt1 bT (fun i hi => by
    have q5 := (bb i hi).2.2.2.2
    rw [(bb i hi).2.1.2.2.2.2.2]
    rcases q5 with h | h
    · exact .inl h
    · exact .inr h.2) 200 300 0 T G hW (fun _ _ => .inl rfl) (by omega) (by omega) (by omega)
  unfold f_X0_batches f_X5_batches
  simp only [lm_is, Option.bind_some, g1]
  exact ⟨r, _, _, h1, h2, Rst_mk (Rel_succ hR)⟩
