/-! ageing: fills against takes -/
set_option maxRecDepth 100000
def fT (T : Nat → Nat → Int32) (v : Int32) (tk : Nat → Bool) : Nat → Nat → Int32 := fun n j => if j = 6 ∧ 1000 ≤ n ∧ tk (n - 1000) = true then v else T n j
def gG (G : Nat → Nat → Int32) (tk : Nat → Bool) : Nat → Nat → Int32 := fun n j => if n = 30 ∧ tk j = true then 1 else G n j
theorem fT_none (T : Nat → Nat → Int32) (v : Int32) : fT T v (fun _ => false) = T := by
  funext n j
  simp [fT]
theorem gG_none (G : Nat → Nat → Int32) : gG G (fun _ => false) = G := by
  funext n j
  simp [gG]
theorem fT_tu (T : Nat → Nat → Int32) (v : Int32) (k : Nat) (tk : Nat → Bool) : fT (tu T (1000 + k) 6 v) v tk = fT T v (fun i => decide (i = k) || tk i) := by
  funext n j
  unfold fT tu
  by_cases h1 : j = 6 ∧ 1000 ≤ n
  · obtain ⟨rfl, h2⟩ := h1
    by_cases h3 : n - 1000 = k
    · have : n = 1000 + k := by omega
      subst this
      simp
    · have : n ≠ 1000 + k := by omega
      simp [h2, h3, this]
  · rw [if_neg (by rintro ⟨a, b, _⟩; exact h1 ⟨a, b⟩), if_neg (by omega), if_neg (by rintro ⟨a, b, _⟩; exact h1 ⟨a, b⟩)]
theorem gG_tu (G : Nat → Nat → Int32) (k : Nat) (tk : Nat → Bool) : gG (tu G 30 k 1) tk = gG G (fun i => decide (i = k) || tk i) := by
  funext n j
  unfold gG tu
  by_cases h1 : n = 30
  · subst h1
    by_cases h3 : j = k
    · subst h3; simp
    · simp [h3]
  · simp [h1]
theorem on_z {a : Nat} (h : a < 100000) : (Int32.ofNat a ≤ 0) = (a ≤ 0) := on_le h (by decide)
/-- what the two loops look at -/
def WB (nb nd np : Nat) (dp bd : Nat → Nat) (T A : Nat → Nat → Int32) (F : Nat → Int32) (G : Nat → Nat → Int32) : Prop :=
  nb ≤ 200 ∧ F 13 = Int32.ofNat nb ∧ T 8 10 = Int32.ofNat nb ∧ T 8 24 = F 44 ∧ nd ≤ 12 ∧ np ≤ 8 ∧ ∀ i, i < nb →
    (bd i < nd ∧ dp (bd i) < np ∧ A 11 i = Int32.ofNat (bd i) ∧ A 6 (bd i) = Int32.ofNat (dp (bd i))) ∧ (T (64 + 16 * dp (bd i)) 2 = A 4 (dp (bd i)) ∧ A 4 (dp (bd i)) ≠ -1) ∧ (T (1000 + i) 3 = A 14 i ∧ 0 ≤ (A 14 i).toInt) ∧ (T (1000 + i) 6 = -1 ↔ (A 17 i = -1 ∧ G 30 i = 0))
section AG
variable {c c' np nd nb na ns nj : Nat} {no dp bd jp : Nat → Nat} {ld : Option Nat} {rw : Nat → Option Nat} {rk : Nat → Nat × Nat} {T T' A A' : Nat → Nat → Int32} {F F' GF : Nat → Int32} {L : Nat → Int64} {GA : Nat → Nat → Int32}
theorem WB_take {G : Nat → Nat → Int32} (h : WB nb nd np dp bd T A F G) {k : Nat} {v : Int32} (hv : v ≠ -1) : WB nb nd np dp bd (tu T (1000 + k) 6 v) A F (tu G 30 k 1) := by
  obtain ⟨h1, h2, h3, h4, h5, h6, h7⟩ := h
  refine ⟨h1, h2, by rw [tu_ne _ _ _ (by omega)]; exact h3, by rw [tu_ne _ _ _ (by omega)]; exact h4, h5, h6, fun i hi => ?_⟩
  obtain ⟨a, b, d, e⟩ := h7 i hi
  have := a.1
  have := a.2.1
  rw [tu_ne _ _ _ (show 64 + 16 * dp (bd i) ≠ 1000 + k by omega), tu_nk _ _ _ (show 3 ≠ 6 by decide)]
  refine ⟨a, b, d, ?_⟩
  by_cases hik : i = k
  · subst hik
    rw [tu_at, tu_at]
    exact ⟨fun e => absurd e hv, fun e => absurd e.2 (by decide)⟩
  · rw [tu_ne _ _ _ (by omega), tu_nk _ _ _ hik]
    exact e
theorem WB_fT {G : Nat → Nat → Int32} (h : WB nb nd np dp bd T A F G) {tk : Nat → Bool} {v : Int32} (hv : v ≠ -1) : WB nb nd np dp bd (fT T v tk) A F (gG G tk) := by
  obtain ⟨h1, h2, h3, h4, h5, h6, h7⟩ := h
  refine ⟨h1, h2, h3, h4, h5, h6, fun i hi => ?_⟩
  obtain ⟨a, b, d, e⟩ := h7 i hi
  have h8 := a.1
  have h9 := a.2.1
  have e1 : fT T v tk (64 + 16 * dp (bd i)) 2 = T (64 + 16 * dp (bd i)) 2 := by unfold fT; rw [if_neg (by omega)]
  have e2 : fT T v tk (1000 + i) 3 = T (1000 + i) 3 := by unfold fT; rw [if_neg (by omega)]
  rw [e1, e2]
  refine ⟨a, b, d, ?_⟩
  unfold fT gG
  rw [Nat.add_sub_cancel_left]
  by_cases hk : tk i = true
  · rw [if_pos ⟨rfl, by omega, hk⟩, if_pos ⟨rfl, hk⟩]
    exact ⟨fun e => absurd e hv, fun e => absurd e.2 (by decide)⟩
  · rw [if_neg (fun h => hk h.2.2), if_neg (fun h => hk h.2)]
    exact e
/-- waits -/
theorem waits_eq {G : Nat → Nat → Int32} (h : WB nb nd np dp bd T A F G) {k : Nat} (hk : k < nb) : f_X5_waits 8 (Int32.ofNat k) (layM F A L GF G) = some (if T (1000 + k) 6 = -1 ∧ A 14 k ≠ 0 then 1 else 0, layM F A L GF G) := by
  obtain ⟨h1, h2, h3, h4, h5, h6, h7⟩ := h
  obtain ⟨a, b, ⟨d1, d2⟩, e⟩ := h7 k hk
  unfold f_X5_waits
  simp -implicitDefEqProofs (maxSteps := 2000000) (disch := omega) only [lm_is, lm_g0, lm_g1, lm_g2, lm_g3, lm_g4, lm_g5, lm_g6, lm_g7, lm_g8, lm_g9, lm_g10, lm_g11, lm_g12, lm_g13, lm_g14, lm_g15, lm_g16, lm_g17, lm_g18, lm_g19, lm_g20, lm_g21, lm_g22, lm_g23, lm_g24, lm_g25, lm_g26, lm_g27, lm_g28, lm_g29, lm_g30, lm_g31, lm_g32, lm_g33, lm_g34, lm_g35, lm_g36, lm_g37, lm_g38, lm_g39, lm_g40, lm_g41, lm_g42, lm_g43, lm_g44, lm_g45, lm_g46, lm_g47, lm_g48, lm_g49, lm_g50, lm_g51, lm_p1, lm_p6, lm_p12, lm_p13, lm_p22, lm_p23, lm_p29, lm_p30, lm_p31, lm_p32, lm_p33, lm_p34, lm_p35, lm_p37, lm_p41, lm_p44, lm_p45, lm_p51, y_is, y_g0, y_g1, y_p1, y_g2, y_g3, y_p3, y_g4, y_p4, y_g5, y_g6, y_g7, y_g8, y_g9, y_g10, y_p10, y_g12, y_p12, y_g13, y_g14, y_p14, y_g15, y_g16, y_p16, y_g17, y_g18, y_p18, y_g19, y_p19, y_g20, y_g21, y_g22, y_p22, y_g23, y_p23, y_g24, y_p24, y_g25, y_p25, y_g26, y_g27, y_p27, y_g11, y_r11, y12_is, y12_g0, y12_p0, y12_g1, y12_g2, y12_p2, y12_g3, y13_is, y13_g0, y13_p0, y13_g1, y13_g2, y13_p2, y13_g3, y14_is, y14_g0, y14_p0, y14_g1, y14_g2, y14_p2, y14_g3, y1_i, y1_i0, y1_i1, y1_i2, y1_i3, y1_i4, y1_i5, y11_i, y11_i0, y11_i1, y11_i2, y11_i3, y11_i4, y11_i5, y11_s, y11_s0, y11_s1, y11_s2, y11_s3, y11_s4, y11_s5, y16_i, y16_i0, y16_i1, y16_i2, y16_s, y16_s0, y16_s1, y16_s2, y17_i, y17_i0, y17_i1, y17_i2, y17_i3, y17_i4, y17_i5, y17_s, y17_s0, y17_s1, y17_s2, y17_s3, y17_s4, y17_s5, y19_i, y19_i0, y19_i1, y19_i2, y19_i3, y19_i4, y19_i5, y19_i6, y19_s, y19_s0, y19_s1, y19_s2, y19_s3, y19_s4, y19_s5, y19_s6, y20_i, y20_i0, y20_i1, y20_i2, y20_i3, y20_i4, y20_i5, y20_i6, y20_s, y20_s0, y20_s1, y20_s2, y20_s3, y20_s4, y20_s5, y20_s6, y9_a, y10_a, y15_a, y18_a, y21_a, yp_is, yp_g0, yp_p0, yp_g1, yp_p1, yp_g2, yp_p2, yp_g3, yp_p3, yp_g4, yl_is, yl_g0, yl_p0, yl_g2, yl_p2, yl_e, yl_e0, ye_a, yo_is, yo_g0, yo_p0, yo_g1, yo_p1, yd_is, yd_g0, yd_g1, yd_p1, yd_g2, yd_p2, yd_g3, yd_p3, yd_g4, yd_p4, yd_g5, yd_p5, yd_g6, yd_p6, yb_is, yb_g0, yb_g1, yb_p1, yb_g2, yb_p2, yb_g3, yb_p3, yb_g4, yb_p4, yb_g5, yb_p5, yb_g6, yb_p6, yb_g7, yb_p7, ys_is, ys_g0, ys_p0, ys_r, ys_a, yj_i, yj_i0, yj_s0, yj_i1, yj_s1, yj_i2, yj_s2, lm_n1, lm_sn1, lm_n1_0, lm_sn1_0, lm_n1_1, lm_sn1_1, lm_n1_2, lm_sn1_2, lm_n1_3, lm_sn1_3, lm_n1_4, lm_sn1_4, lm_n1_5, lm_sn1_5, lm_n2, lm_sn2, lm_n3, lm_sn3, lm_n4, lm_sn4, lm_n5, lm_sn5, lm_n6, lm_sn6, lm_n7, lm_sn7, lm_n8, lm_sn8, lm_n9, lm_sn9, lm_n10, lm_sn10, lm_n11, lm_sn11, lm_n12, lm_sn12, lm_n13, lm_sn13, lm_n14, lm_sn14, lm_n15, lm_sn15, lm_n16, lm_sn16, lm_n17, lm_sn17, lm_n18, lm_sn18, lm_n19, lm_n19_0, lm_sn19_0, lm_n19_1, lm_sn19_1, lm_n19_2, lm_sn19_2, lm_n19_3, lm_sn19_3, lm_n19_4, lm_sn19_4, lm_n19_5, lm_sn19_5, lm_n19_6, lm_sn19_6, lm_n20, lm_sn20, lm_n21, lm_sn21, lm_n22, lm_sn22, lm_n23, lm_sn23, lm_n23_0, lm_sn23_0, lm_n23_1, lm_sn23_1, lm_n23_2, lm_sn23_2, lm_n24, lm_sn24, lm_n24_0, lm_sn24_0, lm_n24_1, lm_sn24_1, lm_n24_2, lm_sn24_2, lm_n24_3, lm_sn24_3, lm_n24_4, lm_sn24_4, lm_n24_5, lm_sn24_5, lm_n25, lm_sn25, lm_n25_0, lm_sn25_0, lm_n25_1, lm_sn25_1, lm_n25_2, lm_sn25_2, lm_n25_3, lm_sn25_3, lm_n25_4, lm_sn25_4, lm_n25_5, lm_sn25_5, lm_n25_6, lm_sn25_6, lm_n26, lm_sn26, lm_n26_0, lm_sn26_0, lm_n26_1, lm_sn26_1, lm_n26_2, lm_sn26_2, lm_n26_3, lm_sn26_3, lm_n26_4, lm_sn26_4, lm_n26_5, lm_sn26_5, lm_n26_6, lm_sn26_6, lm_n27, lm_sn27, lm_n27_0, lm_sn27_0, lm_n27_1, lm_sn27_1, lm_n27_2, lm_sn27_2, lm_n27_3, lm_sn27_3, lm_n27_4, lm_sn27_4, lm_n27_5, lm_sn27_5, lm_n27_6, lm_sn27_6, lm_n28, lm_sn28, lm_n28_0, lm_sn28_0, lm_n28_1, lm_sn28_1, lm_n28_2, lm_sn28_2, lm_n28_3, lm_sn28_3, lm_n28_4, lm_sn28_4, lm_n28_5, lm_sn28_5, lm_n28_6, lm_sn28_6, lm_n29, lm_sn29, lm_n29_0, lm_sn29_0, lm_n29_1, lm_sn29_1, lm_n29_2, lm_sn29_2, lm_n29_3, lm_sn29_3, lm_n29_4, lm_sn29_4, lm_n29_5, lm_sn29_5, lm_n29_6, lm_sn29_6, lm_n30, lm_sn30, lm_n31, lm_sn31, lm_n31_0, lm_sn31_0, lm_n31_1, lm_sn31_1, lm_n31_2, lm_sn31_2, lm_n31_3, lm_sn31_3, lm_n32, lm_sn32, lm_n32_0, lm_sn32_0, lm_n32_1, lm_sn32_1, lm_n32_2, lm_sn32_2, lm_n32_3, lm_sn32_3, lm_n33, lm_sn33, lm_n34, lm_sn34, tu_at, tu_ne, tu_nk, vu_at, vu_ne, jb_some, Option.bind_some, Option.bind_none, one0, if_true, if_false, pos_iff d2]
  by_cases g1 : A 17 k = -1
  · by_cases g2 : A 14 k = 0
    · simp only [g1, g2, if_true, ne_eq, not_true, and_false, if_false]
    · by_cases g3 : G 30 k = 0
      · simp only [g1, g2, g3, if_true, if_false, e.mpr ⟨g1, g3⟩, ne_eq, not_false_eq_true, and_self]
      · have : ¬ T (1000 + k) 6 = -1 := fun h => g3 (e.mp h).2
        simp only [g1, g2, g3, if_true, if_false, this, false_and]
  · have : ¬ T (1000 + k) 6 = -1 := fun h => g1 (e.mp h).1
    simp only [g1, if_false, this, false_and]
/-- behind the first one -/
theorem take_L {f : Nat} (hf : f < nb) {v : Int32} (hv : v ≠ -1) : ∀ (m k N N2 n : Nat) (s : Int32) (T G : Nat → Nat → Int32), WB nb nd np dp bd T A F G → k + m = nb → m + 1 < N → m + 1 < N2 → 1 ≤ n → n ≤ k → ∃ (r : Nat) (tk : Nat → Bool), n ≤ r ∧ r ≤ nb ∧ f_X0_fills_L10 N 8 v (A 4 (dp (bd f))) s (Int32.ofNat n) (Int32.ofNat k) (lay (kX np nd nb no rk) T (rX np nd nb no dp bd ld rw)) = some (Int32.ofNat r, lay (kX np nd nb no rk) (fT T v tk) (rX np nd nb no dp bd ld rw)) ∧ f_X5_takes_L54 N2 8 (Int32.ofNat f) (Int32.ofNat n) s 1 (Int32.ofNat k) (layM F A L GF G) = some (Int32.ofNat r, layM F A L GF (gG G tk)) ∧ (∀ i, tk i = true → i < nb ∧ T (1000 + i) 6 = -1)
  | m, k, 0, N2, _, _, _, _, _, _, h, _, _, _ => absurd h (by omega)
  | m, k, N + 1, 0, _, _, _, _, _, _, _, h, _, _ => absurd h (by omega)
  | 0, k, N + 1, N2 + 1, n, s, T, G, hW, e, _, _, hn, hnk => by
    obtain ⟨h1, h2, h3, h4, h5, h6, h7⟩ := id hW
    have hk : nb ≤ k := by omega
    unfold f_X0_fills_L10 f_X5_takes_L54
    simp -implicitDefEqProofs (maxSteps := 2000000) (disch := omega) only [lm_is, lm_g0, lm_g1, lm_g2, lm_g3, lm_g4, lm_g5, lm_g6, lm_g7, lm_g8, lm_g9, lm_g10, lm_g11, lm_g12, lm_g13, lm_g14, lm_g15, lm_g16, lm_g17, lm_g18, lm_g19, lm_g20, lm_g21, lm_g22, lm_g23, lm_g24, lm_g25, lm_g26, lm_g27, lm_g28, lm_g29, lm_g30, lm_g31, lm_g32, lm_g33, lm_g34, lm_g35, lm_g36, lm_g37, lm_g38, lm_g39, lm_g40, lm_g41, lm_g42, lm_g43, lm_g44, lm_g45, lm_g46, lm_g47, lm_g48, lm_g49, lm_g50, lm_g51, lm_p1, lm_p6, lm_p12, lm_p13, lm_p22, lm_p23, lm_p29, lm_p30, lm_p31, lm_p32, lm_p33, lm_p34, lm_p35, lm_p37, lm_p41, lm_p44, lm_p45, lm_p51, y_is, y_g0, y_g1, y_p1, y_g2, y_g3, y_p3, y_g4, y_p4, y_g5, y_g6, y_g7, y_g8, y_g9, y_g10, y_p10, y_g12, y_p12, y_g13, y_g14, y_p14, y_g15, y_g16, y_p16, y_g17, y_g18, y_p18, y_g19, y_p19, y_g20, y_g21, y_g22, y_p22, y_g23, y_p23, y_g24, y_p24, y_g25, y_p25, y_g26, y_g27, y_p27, y_g11, y_r11, y12_is, y12_g0, y12_p0, y12_g1, y12_g2, y12_p2, y12_g3, y13_is, y13_g0, y13_p0, y13_g1, y13_g2, y13_p2, y13_g3, y14_is, y14_g0, y14_p0, y14_g1, y14_g2, y14_p2, y14_g3, y1_i, y1_i0, y1_i1, y1_i2, y1_i3, y1_i4, y1_i5, y11_i, y11_i0, y11_i1, y11_i2, y11_i3, y11_i4, y11_i5, y11_s, y11_s0, y11_s1, y11_s2, y11_s3, y11_s4, y11_s5, y16_i, y16_i0, y16_i1, y16_i2, y16_s, y16_s0, y16_s1, y16_s2, y17_i, y17_i0, y17_i1, y17_i2, y17_i3, y17_i4, y17_i5, y17_s, y17_s0, y17_s1, y17_s2, y17_s3, y17_s4, y17_s5, y19_i, y19_i0, y19_i1, y19_i2, y19_i3, y19_i4, y19_i5, y19_i6, y19_s, y19_s0, y19_s1, y19_s2, y19_s3, y19_s4, y19_s5, y19_s6, y20_i, y20_i0, y20_i1, y20_i2, y20_i3, y20_i4, y20_i5, y20_i6, y20_s, y20_s0, y20_s1, y20_s2, y20_s3, y20_s4, y20_s5, y20_s6, y9_a, y10_a, y15_a, y18_a, y21_a, yp_is, yp_g0, yp_p0, yp_g1, yp_p1, yp_g2, yp_p2, yp_g3, yp_p3, yp_g4, yl_is, yl_g0, yl_p0, yl_g2, yl_p2, yl_e, yl_e0, ye_a, yo_is, yo_g0, yo_p0, yo_g1, yo_p1, yd_is, yd_g0, yd_g1, yd_p1, yd_g2, yd_p2, yd_g3, yd_p3, yd_g4, yd_p4, yd_g5, yd_p5, yd_g6, yd_p6, yb_is, yb_g0, yb_g1, yb_p1, yb_g2, yb_p2, yb_g3, yb_p3, yb_g4, yb_p4, yb_g5, yb_p5, yb_g6, yb_p6, yb_g7, yb_p7, ys_is, ys_g0, ys_p0, ys_r, ys_a, yj_i, yj_i0, yj_s0, yj_i1, yj_s1, yj_i2, yj_s2, lm_n1, lm_sn1, lm_n1_0, lm_sn1_0, lm_n1_1, lm_sn1_1, lm_n1_2, lm_sn1_2, lm_n1_3, lm_sn1_3, lm_n1_4, lm_sn1_4, lm_n1_5, lm_sn1_5, lm_n2, lm_sn2, lm_n3, lm_sn3, lm_n4, lm_sn4, lm_n5, lm_sn5, lm_n6, lm_sn6, lm_n7, lm_sn7, lm_n8, lm_sn8, lm_n9, lm_sn9, lm_n10, lm_sn10, lm_n11, lm_sn11, lm_n12, lm_sn12, lm_n13, lm_sn13, lm_n14, lm_sn14, lm_n15, lm_sn15, lm_n16, lm_sn16, lm_n17, lm_sn17, lm_n18, lm_sn18, lm_n19, lm_n19_0, lm_sn19_0, lm_n19_1, lm_sn19_1, lm_n19_2, lm_sn19_2, lm_n19_3, lm_sn19_3, lm_n19_4, lm_sn19_4, lm_n19_5, lm_sn19_5, lm_n19_6, lm_sn19_6, lm_n20, lm_sn20, lm_n21, lm_sn21, lm_n22, lm_sn22, lm_n23, lm_sn23, lm_n23_0, lm_sn23_0, lm_n23_1, lm_sn23_1, lm_n23_2, lm_sn23_2, lm_n24, lm_sn24, lm_n24_0, lm_sn24_0, lm_n24_1, lm_sn24_1, lm_n24_2, lm_sn24_2, lm_n24_3, lm_sn24_3, lm_n24_4, lm_sn24_4, lm_n24_5, lm_sn24_5, lm_n25, lm_sn25, lm_n25_0, lm_sn25_0, lm_n25_1, lm_sn25_1, lm_n25_2, lm_sn25_2, lm_n25_3, lm_sn25_3, lm_n25_4, lm_sn25_4, lm_n25_5, lm_sn25_5, lm_n25_6, lm_sn25_6, lm_n26, lm_sn26, lm_n26_0, lm_sn26_0, lm_n26_1, lm_sn26_1, lm_n26_2, lm_sn26_2, lm_n26_3, lm_sn26_3, lm_n26_4, lm_sn26_4, lm_n26_5, lm_sn26_5, lm_n26_6, lm_sn26_6, lm_n27, lm_sn27, lm_n27_0, lm_sn27_0, lm_n27_1, lm_sn27_1, lm_n27_2, lm_sn27_2, lm_n27_3, lm_sn27_3, lm_n27_4, lm_sn27_4, lm_n27_5, lm_sn27_5, lm_n27_6, lm_sn27_6, lm_n28, lm_sn28, lm_n28_0, lm_sn28_0, lm_n28_1, lm_sn28_1, lm_n28_2, lm_sn28_2, lm_n28_3, lm_sn28_3, lm_n28_4, lm_sn28_4, lm_n28_5, lm_sn28_5, lm_n28_6, lm_sn28_6, lm_n29, lm_sn29, lm_n29_0, lm_sn29_0, lm_n29_1, lm_sn29_1, lm_n29_2, lm_sn29_2, lm_n29_3, lm_sn29_3, lm_n29_4, lm_sn29_4, lm_n29_5, lm_sn29_5, lm_n29_6, lm_sn29_6, lm_n30, lm_sn30, lm_n31, lm_sn31, lm_n31_0, lm_sn31_0, lm_n31_1, lm_sn31_1, lm_n31_2, lm_sn31_2, lm_n31_3, lm_sn31_3, lm_n32, lm_sn32, lm_n32_0, lm_sn32_0, lm_n32_1, lm_sn32_1, lm_n32_2, lm_sn32_2, lm_n32_3, lm_sn32_3, lm_n33, lm_sn33, lm_n34, lm_sn34, tu_at, tu_ne, tu_nk, vu_at, vu_ne, jb_some, Option.bind_some, Option.bind_none, one0, if_true, if_false, h2, h3, on_le, hk]
    refine ⟨n, fun _ => false, Nat.le_refl n, by omega, by rw [fT_none], by rw [gG_none], fun i hi => Bool.noConfusion hi⟩
  | m + 1, k, N + 1, N2 + 1, n, s, T, G, hW, e, hN, hN2, hn, hnk => by
    obtain ⟨h1, h2, h3, h4, h5, h6, h7⟩ := id hW
    have hk' : k < nb := by omega
    have hk : ¬ nb ≤ k := by omega
    have hn0 : ¬ n ≤ 0 := by omega
    have hn1 : ¬ n = 0 := by omega
    obtain ⟨⟨a1, a2, a3, a4⟩, ⟨b1, b2⟩, ⟨d1, d2⟩, e1⟩ := h7 k hk'
    obtain ⟨⟨f1, f2, f3, f4⟩, ⟨f5, f6⟩, _⟩ := h7 f hf
    have hw := waits_eq (L := L) (GF := GF) hW hk'
    unfold f_X0_fills_L10 f_X5_takes_L54 f_X0_fills_j68 f_X5_takes_j133
    unfold f_X0_fills_j90 f_X5_takes_j138
    unfold f_X0_fills_j119 f_X5_takes_j166
    simp -implicitDefEqProofs (maxSteps := 2000000) (disch := omega) only [lm_is, lm_g0, lm_g1, lm_g2, lm_g3, lm_g4, lm_g5, lm_g6, lm_g7, lm_g8, lm_g9, lm_g10, lm_g11, lm_g12, lm_g13, lm_g14, lm_g15, lm_g16, lm_g17, lm_g18, lm_g19, lm_g20, lm_g21, lm_g22, lm_g23, lm_g24, lm_g25, lm_g26, lm_g27, lm_g28, lm_g29, lm_g30, lm_g31, lm_g32, lm_g33, lm_g34, lm_g35, lm_g36, lm_g37, lm_g38, lm_g39, lm_g40, lm_g41, lm_g42, lm_g43, lm_g44, lm_g45, lm_g46, lm_g47, lm_g48, lm_g49, lm_g50, lm_g51, lm_p1, lm_p6, lm_p12, lm_p13, lm_p22, lm_p23, lm_p29, lm_p30, lm_p31, lm_p32, lm_p33, lm_p34, lm_p35, lm_p37, lm_p41, lm_p44, lm_p45, lm_p51, y_is, y_g0, y_g1, y_p1, y_g2, y_g3, y_p3, y_g4, y_p4, y_g5, y_g6, y_g7, y_g8, y_g9, y_g10, y_p10, y_g12, y_p12, y_g13, y_g14, y_p14, y_g15, y_g16, y_p16, y_g17, y_g18, y_p18, y_g19, y_p19, y_g20, y_g21, y_g22, y_p22, y_g23, y_p23, y_g24, y_p24, y_g25, y_p25, y_g26, y_g27, y_p27, y_g11, y_r11, y12_is, y12_g0, y12_p0, y12_g1, y12_g2, y12_p2, y12_g3, y13_is, y13_g0, y13_p0, y13_g1, y13_g2, y13_p2, y13_g3, y14_is, y14_g0, y14_p0, y14_g1, y14_g2, y14_p2, y14_g3, y1_i, y1_i0, y1_i1, y1_i2, y1_i3, y1_i4, y1_i5, y11_i, y11_i0, y11_i1, y11_i2, y11_i3, y11_i4, y11_i5, y11_s, y11_s0, y11_s1, y11_s2, y11_s3, y11_s4, y11_s5, y16_i, y16_i0, y16_i1, y16_i2, y16_s, y16_s0, y16_s1, y16_s2, y17_i, y17_i0, y17_i1, y17_i2, y17_i3, y17_i4, y17_i5, y17_s, y17_s0, y17_s1, y17_s2, y17_s3, y17_s4, y17_s5, y19_i, y19_i0, y19_i1, y19_i2, y19_i3, y19_i4, y19_i5, y19_i6, y19_s, y19_s0, y19_s1, y19_s2, y19_s3, y19_s4, y19_s5, y19_s6, y20_i, y20_i0, y20_i1, y20_i2, y20_i3, y20_i4, y20_i5, y20_i6, y20_s, y20_s0, y20_s1, y20_s2, y20_s3, y20_s4, y20_s5, y20_s6, y9_a, y10_a, y15_a, y18_a, y21_a, yp_is, yp_g0, yp_p0, yp_g1, yp_p1, yp_g2, yp_p2, yp_g3, yp_p3, yp_g4, yl_is, yl_g0, yl_p0, yl_g2, yl_p2, yl_e, yl_e0, ye_a, yo_is, yo_g0, yo_p0, yo_g1, yo_p1, yd_is, yd_g0, yd_g1, yd_p1, yd_g2, yd_p2, yd_g3, yd_p3, yd_g4, yd_p4, yd_g5, yd_p5, yd_g6, yd_p6, yb_is, yb_g0, yb_g1, yb_p1, yb_g2, yb_p2, yb_g3, yb_p3, yb_g4, yb_p4, yb_g5, yb_p5, yb_g6, yb_p6, yb_g7, yb_p7, ys_is, ys_g0, ys_p0, ys_r, ys_a, yj_i, yj_i0, yj_s0, yj_i1, yj_s1, yj_i2, yj_s2, lm_n1, lm_sn1, lm_n1_0, lm_sn1_0, lm_n1_1, lm_sn1_1, lm_n1_2, lm_sn1_2, lm_n1_3, lm_sn1_3, lm_n1_4, lm_sn1_4, lm_n1_5, lm_sn1_5, lm_n2, lm_sn2, lm_n3, lm_sn3, lm_n4, lm_sn4, lm_n5, lm_sn5, lm_n6, lm_sn6, lm_n7, lm_sn7, lm_n8, lm_sn8, lm_n9, lm_sn9, lm_n10, lm_sn10, lm_n11, lm_sn11, lm_n12, lm_sn12, lm_n13, lm_sn13, lm_n14, lm_sn14, lm_n15, lm_sn15, lm_n16, lm_sn16, lm_n17, lm_sn17, lm_n18, lm_sn18, lm_n19, lm_n19_0, lm_sn19_0, lm_n19_1, lm_sn19_1, lm_n19_2, lm_sn19_2, lm_n19_3, lm_sn19_3, lm_n19_4, lm_sn19_4, lm_n19_5, lm_sn19_5, lm_n19_6, lm_sn19_6, lm_n20, lm_sn20, lm_n21, lm_sn21, lm_n22, lm_sn22, lm_n23, lm_sn23, lm_n23_0, lm_sn23_0, lm_n23_1, lm_sn23_1, lm_n23_2, lm_sn23_2, lm_n24, lm_sn24, lm_n24_0, lm_sn24_0, lm_n24_1, lm_sn24_1, lm_n24_2, lm_sn24_2, lm_n24_3, lm_sn24_3, lm_n24_4, lm_sn24_4, lm_n24_5, lm_sn24_5, lm_n25, lm_sn25, lm_n25_0, lm_sn25_0, lm_n25_1, lm_sn25_1, lm_n25_2, lm_sn25_2, lm_n25_3, lm_sn25_3, lm_n25_4, lm_sn25_4, lm_n25_5, lm_sn25_5, lm_n25_6, lm_sn25_6, lm_n26, lm_sn26, lm_n26_0, lm_sn26_0, lm_n26_1, lm_sn26_1, lm_n26_2, lm_sn26_2, lm_n26_3, lm_sn26_3, lm_n26_4, lm_sn26_4, lm_n26_5, lm_sn26_5, lm_n26_6, lm_sn26_6, lm_n27, lm_sn27, lm_n27_0, lm_sn27_0, lm_n27_1, lm_sn27_1, lm_n27_2, lm_sn27_2, lm_n27_3, lm_sn27_3, lm_n27_4, lm_sn27_4, lm_n27_5, lm_sn27_5, lm_n27_6, lm_sn27_6, lm_n28, lm_sn28, lm_n28_0, lm_sn28_0, lm_n28_1, lm_sn28_1, lm_n28_2, lm_sn28_2, lm_n28_3, lm_sn28_3, lm_n28_4, lm_sn28_4, lm_n28_5, lm_sn28_5, lm_n28_6, lm_sn28_6, lm_n29, lm_sn29, lm_n29_0, lm_sn29_0, lm_n29_1, lm_sn29_1, lm_n29_2, lm_sn29_2, lm_n29_3, lm_sn29_3, lm_n29_4, lm_sn29_4, lm_n29_5, lm_sn29_5, lm_n29_6, lm_sn29_6, lm_n30, lm_sn30, lm_n31, lm_sn31, lm_n31_0, lm_sn31_0, lm_n31_1, lm_sn31_1, lm_n31_2, lm_sn31_2, lm_n31_3, lm_sn31_3, lm_n32, lm_sn32, lm_n32_0, lm_sn32_0, lm_n32_1, lm_sn32_1, lm_n32_2, lm_sn32_2, lm_n32_3, lm_sn32_3, lm_n33, lm_sn33, lm_n34, lm_sn34, tu_at, tu_ne, tu_nk, vu_at, vu_ne, jb_some, Option.bind_some, Option.bind_none, one0, if_true, if_false, h2, h3, h4, on_le, hk, hw, d1, b1, f6, on1, on_z, on_l0, hn0, hn1, a3, a4, f3, f4, nar1]
    have hskip := take_L hf hv m (k + 1) N N2 n s T G hW (by omega) (by omega) (by omega) hn (by omega)
    by_cases g1 : A 14 k = 0
    · simp only [g1, if_true, ne_eq, not_true, and_false, if_false]
      exact hskip
    · simp only [g1, if_false, ne_eq, not_false_eq_true, and_true]
      by_cases g2 : T (1000 + k) 6 = -1
      · simp only [g2, if_true, one0, if_false]
        by_cases g3 : A 4 (dp (bd k)) = A 4 (dp (bd f))
        · simp only [g3, if_true]
          by_cases g4 : s + A 14 k ≤ F 44
          · have g5 : ¬ F 44 < s + A 14 k := by
              rw [Int32.le_iff_toInt_le] at g4
              rw [Int32.lt_iff_toInt_lt]
              omega
            simp only [g4, g5, if_true, if_false]
            obtain ⟨r, tk, r1, r2, r3, r4, r5⟩ := take_L hf hv m (k + 1) N N2 (n + 1) (s + A 14 k) (tu T (1000 + k) 6 v) (tu G 30 k 1) (WB_take hW hv) (by omega) (by omega) (by omega) (by omega) (by omega)
            refine ⟨r, fun i => decide (i = k) || tk i, by omega, r2, ?_, ?_, ?_⟩
            · rw [r3, fT_tu]
            · rw [r4, gG_tu]
            · intro i hi
              by_cases hik : i = k
              · subst hik; exact ⟨hk', g2⟩
              · simp only [hik, decide_false, Bool.false_or] at hi
                have := r5 i hi
                rw [tu_ne _ _ _ (by omega)] at this
                exact this
          · have g5 : F 44 < s + A 14 k := by
              rw [Int32.le_iff_toInt_le] at g4
              rw [Int32.lt_iff_toInt_lt]
              omega
            simp only [g4, g5, if_true, if_false]
            refine ⟨n, fun _ => false, Nat.le_refl n, by omega, by rw [fT_none], ?_, fun i hi => Bool.noConfusion hi⟩
            rw [gG_none]
            cases N2 with
            | zero => omega
            | succ N2 =>
              unfold f_X5_takes_L54
              simp -implicitDefEqProofs (maxSteps := 2000000) (disch := omega) only [lm_is, lm_g0, lm_g1, lm_g2, lm_g3, lm_g4, lm_g5, lm_g6, lm_g7, lm_g8, lm_g9, lm_g10, lm_g11, lm_g12, lm_g13, lm_g14, lm_g15, lm_g16, lm_g17, lm_g18, lm_g19, lm_g20, lm_g21, lm_g22, lm_g23, lm_g24, lm_g25, lm_g26, lm_g27, lm_g28, lm_g29, lm_g30, lm_g31, lm_g32, lm_g33, lm_g34, lm_g35, lm_g36, lm_g37, lm_g38, lm_g39, lm_g40, lm_g41, lm_g42, lm_g43, lm_g44, lm_g45, lm_g46, lm_g47, lm_g48, lm_g49, lm_g50, lm_g51, lm_p1, lm_p6, lm_p12, lm_p13, lm_p22, lm_p23, lm_p29, lm_p30, lm_p31, lm_p32, lm_p33, lm_p34, lm_p35, lm_p37, lm_p41, lm_p44, lm_p45, lm_p51, y_is, y_g0, y_g1, y_p1, y_g2, y_g3, y_p3, y_g4, y_p4, y_g5, y_g6, y_g7, y_g8, y_g9, y_g10, y_p10, y_g12, y_p12, y_g13, y_g14, y_p14, y_g15, y_g16, y_p16, y_g17, y_g18, y_p18, y_g19, y_p19, y_g20, y_g21, y_g22, y_p22, y_g23, y_p23, y_g24, y_p24, y_g25, y_p25, y_g26, y_g27, y_p27, y_g11, y_r11, y12_is, y12_g0, y12_p0, y12_g1, y12_g2, y12_p2, y12_g3, y13_is, y13_g0, y13_p0, y13_g1, y13_g2, y13_p2, y13_g3, y14_is, y14_g0, y14_p0, y14_g1, y14_g2, y14_p2, y14_g3, y1_i, y1_i0, y1_i1, y1_i2, y1_i3, y1_i4, y1_i5, y11_i, y11_i0, y11_i1, y11_i2, y11_i3, y11_i4, y11_i5, y11_s, y11_s0, y11_s1, y11_s2, y11_s3, y11_s4, y11_s5, y16_i, y16_i0, y16_i1, y16_i2, y16_s, y16_s0, y16_s1, y16_s2, y17_i, y17_i0, y17_i1, y17_i2, y17_i3, y17_i4, y17_i5, y17_s, y17_s0, y17_s1, y17_s2, y17_s3, y17_s4, y17_s5, y19_i, y19_i0, y19_i1, y19_i2, y19_i3, y19_i4, y19_i5, y19_i6, y19_s, y19_s0, y19_s1, y19_s2, y19_s3, y19_s4, y19_s5, y19_s6, y20_i, y20_i0, y20_i1, y20_i2, y20_i3, y20_i4, y20_i5, y20_i6, y20_s, y20_s0, y20_s1, y20_s2, y20_s3, y20_s4, y20_s5, y20_s6, y9_a, y10_a, y15_a, y18_a, y21_a, yp_is, yp_g0, yp_p0, yp_g1, yp_p1, yp_g2, yp_p2, yp_g3, yp_p3, yp_g4, yl_is, yl_g0, yl_p0, yl_g2, yl_p2, yl_e, yl_e0, ye_a, yo_is, yo_g0, yo_p0, yo_g1, yo_p1, yd_is, yd_g0, yd_g1, yd_p1, yd_g2, yd_p2, yd_g3, yd_p3, yd_g4, yd_p4, yd_g5, yd_p5, yd_g6, yd_p6, yb_is, yb_g0, yb_g1, yb_p1, yb_g2, yb_p2, yb_g3, yb_p3, yb_g4, yb_p4, yb_g5, yb_p5, yb_g6, yb_p6, yb_g7, yb_p7, ys_is, ys_g0, ys_p0, ys_r, ys_a, yj_i, yj_i0, yj_s0, yj_i1, yj_s1, yj_i2, yj_s2, lm_n1, lm_sn1, lm_n1_0, lm_sn1_0, lm_n1_1, lm_sn1_1, lm_n1_2, lm_sn1_2, lm_n1_3, lm_sn1_3, lm_n1_4, lm_sn1_4, lm_n1_5, lm_sn1_5, lm_n2, lm_sn2, lm_n3, lm_sn3, lm_n4, lm_sn4, lm_n5, lm_sn5, lm_n6, lm_sn6, lm_n7, lm_sn7, lm_n8, lm_sn8, lm_n9, lm_sn9, lm_n10, lm_sn10, lm_n11, lm_sn11, lm_n12, lm_sn12, lm_n13, lm_sn13, lm_n14, lm_sn14, lm_n15, lm_sn15, lm_n16, lm_sn16, lm_n17, lm_sn17, lm_n18, lm_sn18, lm_n19, lm_n19_0, lm_sn19_0, lm_n19_1, lm_sn19_1, lm_n19_2, lm_sn19_2, lm_n19_3, lm_sn19_3, lm_n19_4, lm_sn19_4, lm_n19_5, lm_sn19_5, lm_n19_6, lm_sn19_6, lm_n20, lm_sn20, lm_n21, lm_sn21, lm_n22, lm_sn22, lm_n23, lm_sn23, lm_n23_0, lm_sn23_0, lm_n23_1, lm_sn23_1, lm_n23_2, lm_sn23_2, lm_n24, lm_sn24, lm_n24_0, lm_sn24_0, lm_n24_1, lm_sn24_1, lm_n24_2, lm_sn24_2, lm_n24_3, lm_sn24_3, lm_n24_4, lm_sn24_4, lm_n24_5, lm_sn24_5, lm_n25, lm_sn25, lm_n25_0, lm_sn25_0, lm_n25_1, lm_sn25_1, lm_n25_2, lm_sn25_2, lm_n25_3, lm_sn25_3, lm_n25_4, lm_sn25_4, lm_n25_5, lm_sn25_5, lm_n25_6, lm_sn25_6, lm_n26, lm_sn26, lm_n26_0, lm_sn26_0, lm_n26_1, lm_sn26_1, lm_n26_2, lm_sn26_2, lm_n26_3, lm_sn26_3, lm_n26_4, lm_sn26_4, lm_n26_5, lm_sn26_5, lm_n26_6, lm_sn26_6, lm_n27, lm_sn27, lm_n27_0, lm_sn27_0, lm_n27_1, lm_sn27_1, lm_n27_2, lm_sn27_2, lm_n27_3, lm_sn27_3, lm_n27_4, lm_sn27_4, lm_n27_5, lm_sn27_5, lm_n27_6, lm_sn27_6, lm_n28, lm_sn28, lm_n28_0, lm_sn28_0, lm_n28_1, lm_sn28_1, lm_n28_2, lm_sn28_2, lm_n28_3, lm_sn28_3, lm_n28_4, lm_sn28_4, lm_n28_5, lm_sn28_5, lm_n28_6, lm_sn28_6, lm_n29, lm_sn29, lm_n29_0, lm_sn29_0, lm_n29_1, lm_sn29_1, lm_n29_2, lm_sn29_2, lm_n29_3, lm_sn29_3, lm_n29_4, lm_sn29_4, lm_n29_5, lm_sn29_5, lm_n29_6, lm_sn29_6, lm_n30, lm_sn30, lm_n31, lm_sn31, lm_n31_0, lm_sn31_0, lm_n31_1, lm_sn31_1, lm_n31_2, lm_sn31_2, lm_n31_3, lm_sn31_3, lm_n32, lm_sn32, lm_n32_0, lm_sn32_0, lm_n32_1, lm_sn32_1, lm_n32_2, lm_sn32_2, lm_n32_3, lm_sn32_3, lm_n33, lm_sn33, lm_n34, lm_sn34, tu_at, tu_ne, tu_nk, vu_at, vu_ne, jb_some, Option.bind_some, Option.bind_none, one0, if_true, if_false, h2, on_le]
              split <;> rfl
        · simp only [g3, if_false]
          exact hskip
      · simp only [g2, if_false, if_true]
        exact hskip
end AG
